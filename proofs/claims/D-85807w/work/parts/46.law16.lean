/-! PLAIN LAW 16: what loads and stores leave alone (the place 0, sleeps 6); the stack -/
set_option maxRecDepth 100000
def Fr (j : Nat) (c : Int32) (s : Sg) : Prop := s 0 j = c
def FrP (j : Nat) (c : Int32) (r : Int32 × Sg) : Prop := r.2 0 j = c
theorem Fr_0 {j i : Nat} {c v : Int32} {s : Sg} (h : Fr j c s) (hi : j ≠ i) : Fr j c (sst s 0 i v) := (sst_ne_j s v hi).trans h
theorem Fr_k {j i k : Nat} {c v : Int32} {s : Sg} (h : Fr j c s) (hi : 0 ≠ k) : Fr j c (sst s k i v) := (sst_ne_k s v hi).trans h
theorem Fr_ltS {j : Nat} {c : Int32} {s : Sg} {f : Sg → Sg} (h : Fr j c s) (k : ∀ s, Fr j c s → Fr j c (f s)) : Fr j c (lt s f) := k s h
theorem Fr_ltP {j : Nat} {c : Int32} {s : Int32 × Sg} {f : Int32 × Sg → Sg} (h : FrP j c s) (k : ∀ v s, Fr j c s → Fr j c (f (v, s))) : Fr j c (lt s f) := k s.1 s.2 h
theorem Fr_lti {j : Nat} {c : Int32} {x : Int32} {f : Int32 → Sg} (k : ∀ x, Fr j c (f x)) : Fr j c (lt x f) := k x
theorem FrP_ltS {j : Nat} {c : Int32} {s : Sg} {f : Sg → Int32 × Sg} (h : Fr j c s) (k : ∀ s, Fr j c s → FrP j c (f s)) : FrP j c (lt s f) := k s h
theorem FrP_ltP {j : Nat} {c : Int32} {s : Int32 × Sg} {f : Int32 × Sg → Int32 × Sg} (h : FrP j c s) (k : ∀ v s, Fr j c s → FrP j c (f (v, s))) : FrP j c (lt s f) := k s.1 s.2 h
theorem FrP_lti {j : Nat} {c : Int32} {x : Int32} {f : Int32 → Int32 × Sg} (k : ∀ x, FrP j c (f x)) : FrP j c (lt x f) := k x
theorem Fr_ite {j : Nat} {c : Int32} {e : Prop} [Decidable e] {s t : Sg} (h1 : Fr j c s) (h2 : Fr j c t) : Fr j c (if e then s else t) := by
  by_cases h : e
  · rw [if_pos h]; exact h1
  · rw [if_neg h]; exact h2
theorem FrP_ite {j : Nat} {c : Int32} {e : Prop} [Decidable e] {s t : Int32 × Sg} (h1 : FrP j c s) (h2 : FrP j c t) : FrP j c (if e then s else t) := by
  by_cases h : e
  · rw [if_pos h]; exact h1
  · rw [if_neg h]; exact h2
theorem FrP_i {j : Nat} {c x : Int32} {s : Sg} (h : Fr j c s) : FrP j c (x, s) := h
theorem Fr_x4_store {j : Nat} (hj : j = 0 ∨ j = 6) {c : Int32} {s : Sg} (h : Fr j c s) (x1 x2 : Int32) : Fr j c (x4_store s x1 x2) := by
  unfold x4_store
  repeat' (first
    | assumption
    | (intro v s h)
    | (intro s h)
    | (intro x)
    | (with_reducible refine Fr_k ?_ (by decide))
    | (with_reducible refine Fr_0 ?_ (by rcases hj with rfl | rfl <;> decide))
    | with_reducible refine Fr_ite ?_ ?_
    | with_reducible refine FrP_ite ?_ ?_
    | with_reducible refine Fr_ltS ?_ ?_
    | with_reducible refine Fr_ltP ?_ ?_
    | with_reducible refine Fr_lti ?_
    | with_reducible refine FrP_ltS ?_ ?_
    | with_reducible refine FrP_ltP ?_ ?_
    | with_reducible refine FrP_lti ?_
    | with_reducible refine FrP_i ?_)
theorem Fr_x5_store {j : Nat} (hj : j = 0 ∨ j = 6) {c : Int32} {s : Sg} (h : Fr j c s) (x1 x2 : Int32) : Fr j c (x5_store s x1 x2) := by
  unfold x5_store
  repeat' (first
    | assumption
    | (intro v s h)
    | (intro s h)
    | (intro x)
    | (with_reducible refine Fr_x4_store hj ?_ _ _)
    | (with_reducible refine Fr_k ?_ (by decide))
    | (with_reducible refine Fr_0 ?_ (by rcases hj with rfl | rfl <;> decide))
    | with_reducible refine Fr_ite ?_ ?_
    | with_reducible refine FrP_ite ?_ ?_
    | with_reducible refine Fr_ltS ?_ ?_
    | with_reducible refine Fr_ltP ?_ ?_
    | with_reducible refine Fr_lti ?_
    | with_reducible refine FrP_ltS ?_ ?_
    | with_reducible refine FrP_ltP ?_ ?_
    | with_reducible refine FrP_lti ?_
    | with_reducible refine FrP_i ?_)
theorem Fr_x7_store {j : Nat} (hj : j = 0 ∨ j = 6) {c : Int32} {s : Sg} (h : Fr j c s) (x1 x2 : Int32) : Fr j c (x7_store s x1 x2) := by
  unfold x7_store
  repeat' (first
    | assumption
    | (intro v s h)
    | (intro s h)
    | (intro x)
    | (with_reducible refine Fr_x4_store hj ?_ _ _)
    | (with_reducible refine Fr_x5_store hj ?_ _ _)
    | (with_reducible refine Fr_k ?_ (by decide))
    | (with_reducible refine Fr_0 ?_ (by rcases hj with rfl | rfl <;> decide))
    | with_reducible refine Fr_ite ?_ ?_
    | with_reducible refine FrP_ite ?_ ?_
    | with_reducible refine Fr_ltS ?_ ?_
    | with_reducible refine Fr_ltP ?_ ?_
    | with_reducible refine Fr_lti ?_
    | with_reducible refine FrP_ltS ?_ ?_
    | with_reducible refine FrP_ltP ?_ ?_
    | with_reducible refine FrP_lti ?_
    | with_reducible refine FrP_i ?_)
theorem Fr_x9_store {j : Nat} (hj : j = 0 ∨ j = 6) {c : Int32} {s : Sg} (h : Fr j c s) (x1 x2 : Int32) : Fr j c (x9_store s x1 x2) := by
  unfold x9_store
  repeat' (first
    | assumption
    | (intro v s h)
    | (intro s h)
    | (intro x)
    | (with_reducible refine Fr_x4_store hj ?_ _ _)
    | (with_reducible refine Fr_x5_store hj ?_ _ _)
    | (with_reducible refine Fr_x7_store hj ?_ _ _)
    | (with_reducible refine Fr_k ?_ (by decide))
    | (with_reducible refine Fr_0 ?_ (by rcases hj with rfl | rfl <;> decide))
    | with_reducible refine Fr_ite ?_ ?_
    | with_reducible refine FrP_ite ?_ ?_
    | with_reducible refine Fr_ltS ?_ ?_
    | with_reducible refine Fr_ltP ?_ ?_
    | with_reducible refine Fr_lti ?_
    | with_reducible refine FrP_ltS ?_ ?_
    | with_reducible refine FrP_ltP ?_ ?_
    | with_reducible refine FrP_lti ?_
    | with_reducible refine FrP_i ?_)
theorem Fr_x10_store {j : Nat} (hj : j = 0 ∨ j = 6) {c : Int32} {s : Sg} (h : Fr j c s) (x1 x2 : Int32) : Fr j c (x10_store s x1 x2) := by
  unfold x10_store
  repeat' (first
    | assumption
    | (intro v s h)
    | (intro s h)
    | (intro x)
    | (with_reducible refine Fr_x4_store hj ?_ _ _)
    | (with_reducible refine Fr_x5_store hj ?_ _ _)
    | (with_reducible refine Fr_x7_store hj ?_ _ _)
    | (with_reducible refine Fr_x9_store hj ?_ _ _)
    | (with_reducible refine Fr_k ?_ (by decide))
    | (with_reducible refine Fr_0 ?_ (by rcases hj with rfl | rfl <;> decide))
    | with_reducible refine Fr_ite ?_ ?_
    | with_reducible refine FrP_ite ?_ ?_
    | with_reducible refine Fr_ltS ?_ ?_
    | with_reducible refine Fr_ltP ?_ ?_
    | with_reducible refine Fr_lti ?_
    | with_reducible refine FrP_ltS ?_ ?_
    | with_reducible refine FrP_ltP ?_ ?_
    | with_reducible refine FrP_lti ?_
    | with_reducible refine FrP_i ?_)
theorem Fr_x8_store {j : Nat} (hj : j = 0 ∨ j = 6) {c : Int32} {s : Sg} (h : Fr j c s) (x1 x2 : Int32) : Fr j c (x8_store s x1 x2) := by
  unfold x8_store
  repeat' (first
    | assumption
    | (intro v s h)
    | (intro s h)
    | (intro x)
    | (with_reducible refine Fr_x4_store hj ?_ _ _)
    | (with_reducible refine Fr_x5_store hj ?_ _ _)
    | (with_reducible refine Fr_x7_store hj ?_ _ _)
    | (with_reducible refine Fr_x9_store hj ?_ _ _)
    | (with_reducible refine Fr_x10_store hj ?_ _ _)
    | (with_reducible refine Fr_k ?_ (by decide))
    | (with_reducible refine Fr_0 ?_ (by rcases hj with rfl | rfl <;> decide))
    | with_reducible refine Fr_ite ?_ ?_
    | with_reducible refine FrP_ite ?_ ?_
    | with_reducible refine Fr_ltS ?_ ?_
    | with_reducible refine Fr_ltP ?_ ?_
    | with_reducible refine Fr_lti ?_
    | with_reducible refine FrP_ltS ?_ ?_
    | with_reducible refine FrP_ltP ?_ ?_
    | with_reducible refine FrP_lti ?_
    | with_reducible refine FrP_i ?_)
theorem Fr_x6_store {j : Nat} (hj : j = 0 ∨ j = 6) {c : Int32} {s : Sg} (h : Fr j c s) (x1 x2 : Int32) : Fr j c (x6_store s x1 x2) := by
  unfold x6_store
  repeat' (first
    | assumption
    | (intro v s h)
    | (intro s h)
    | (intro x)
    | (with_reducible refine Fr_x4_store hj ?_ _ _)
    | (with_reducible refine Fr_x5_store hj ?_ _ _)
    | (with_reducible refine Fr_x7_store hj ?_ _ _)
    | (with_reducible refine Fr_x9_store hj ?_ _ _)
    | (with_reducible refine Fr_x10_store hj ?_ _ _)
    | (with_reducible refine Fr_x8_store hj ?_ _ _)
    | (with_reducible refine Fr_k ?_ (by decide))
    | (with_reducible refine Fr_0 ?_ (by rcases hj with rfl | rfl <;> decide))
    | with_reducible refine Fr_ite ?_ ?_
    | with_reducible refine FrP_ite ?_ ?_
    | with_reducible refine Fr_ltS ?_ ?_
    | with_reducible refine Fr_ltP ?_ ?_
    | with_reducible refine Fr_lti ?_
    | with_reducible refine FrP_ltS ?_ ?_
    | with_reducible refine FrP_ltP ?_ ?_
    | with_reducible refine FrP_lti ?_
    | with_reducible refine FrP_i ?_)
theorem Fr_x3_store {j : Nat} (hj : j = 0 ∨ j = 6) {c : Int32} {s : Sg} (h : Fr j c s) (x1 x2 : Int32) : Fr j c (x3_store s x1 x2) := by
  unfold x3_store
  repeat' (first
    | assumption
    | (intro v s h)
    | (intro s h)
    | (intro x)
    | (with_reducible refine Fr_x4_store hj ?_ _ _)
    | (with_reducible refine Fr_x5_store hj ?_ _ _)
    | (with_reducible refine Fr_x7_store hj ?_ _ _)
    | (with_reducible refine Fr_x9_store hj ?_ _ _)
    | (with_reducible refine Fr_x10_store hj ?_ _ _)
    | (with_reducible refine Fr_x8_store hj ?_ _ _)
    | (with_reducible refine Fr_x6_store hj ?_ _ _)
    | (with_reducible refine Fr_k ?_ (by decide))
    | (with_reducible refine Fr_0 ?_ (by rcases hj with rfl | rfl <;> decide))
    | with_reducible refine Fr_ite ?_ ?_
    | with_reducible refine FrP_ite ?_ ?_
    | with_reducible refine Fr_ltS ?_ ?_
    | with_reducible refine Fr_ltP ?_ ?_
    | with_reducible refine Fr_lti ?_
    | with_reducible refine FrP_ltS ?_ ?_
    | with_reducible refine FrP_ltP ?_ ?_
    | with_reducible refine FrP_lti ?_
    | with_reducible refine FrP_i ?_)
theorem Fr_x2_store {j : Nat} (hj : j = 0 ∨ j = 6) {c : Int32} {s : Sg} (h : Fr j c s) (x1 x2 : Int32) : Fr j c (x2_store s x1 x2) := by
  unfold x2_store
  repeat' (first
    | assumption
    | (intro v s h)
    | (intro s h)
    | (intro x)
    | (with_reducible refine Fr_x4_store hj ?_ _ _)
    | (with_reducible refine Fr_x5_store hj ?_ _ _)
    | (with_reducible refine Fr_x7_store hj ?_ _ _)
    | (with_reducible refine Fr_x9_store hj ?_ _ _)
    | (with_reducible refine Fr_x10_store hj ?_ _ _)
    | (with_reducible refine Fr_x8_store hj ?_ _ _)
    | (with_reducible refine Fr_x6_store hj ?_ _ _)
    | (with_reducible refine Fr_x3_store hj ?_ _ _)
    | (with_reducible refine Fr_k ?_ (by decide))
    | (with_reducible refine Fr_0 ?_ (by rcases hj with rfl | rfl <;> decide))
    | with_reducible refine Fr_ite ?_ ?_
    | with_reducible refine FrP_ite ?_ ?_
    | with_reducible refine Fr_ltS ?_ ?_
    | with_reducible refine Fr_ltP ?_ ?_
    | with_reducible refine Fr_lti ?_
    | with_reducible refine FrP_ltS ?_ ?_
    | with_reducible refine FrP_ltP ?_ ?_
    | with_reducible refine FrP_lti ?_
    | with_reducible refine FrP_i ?_)
theorem Fr_x6_load {j : Nat} (hj : j = 0 ∨ j = 6) {c : Int32} {s : Sg} (h : Fr j c s) (x1 : Int32) : FrP j c (x6_load s x1) := by
  unfold x6_load
  repeat' (first
    | assumption
    | (intro v s h)
    | (intro s h)
    | (intro x)
    | (with_reducible refine Fr_x4_store hj ?_ _ _)
    | (with_reducible refine Fr_x5_store hj ?_ _ _)
    | (with_reducible refine Fr_x7_store hj ?_ _ _)
    | (with_reducible refine Fr_x9_store hj ?_ _ _)
    | (with_reducible refine Fr_x10_store hj ?_ _ _)
    | (with_reducible refine Fr_x8_store hj ?_ _ _)
    | (with_reducible refine Fr_x6_store hj ?_ _ _)
    | (with_reducible refine Fr_x3_store hj ?_ _ _)
    | (with_reducible refine Fr_x2_store hj ?_ _ _)
    | (with_reducible refine Fr_k ?_ (by decide))
    | (with_reducible refine Fr_0 ?_ (by rcases hj with rfl | rfl <;> decide))
    | with_reducible refine Fr_ite ?_ ?_
    | with_reducible refine FrP_ite ?_ ?_
    | with_reducible refine Fr_ltS ?_ ?_
    | with_reducible refine Fr_ltP ?_ ?_
    | with_reducible refine Fr_lti ?_
    | with_reducible refine FrP_ltS ?_ ?_
    | with_reducible refine FrP_ltP ?_ ?_
    | with_reducible refine FrP_lti ?_
    | with_reducible refine FrP_i ?_)
theorem Fr_x2_load {j : Nat} (hj : j = 0 ∨ j = 6) {c : Int32} {s : Sg} (h : Fr j c s) (x1 : Int32) : FrP j c (x2_load s x1) := by
  unfold x2_load
  repeat' (first
    | assumption
    | (intro v s h)
    | (intro s h)
    | (intro x)
    | (with_reducible refine Fr_x4_store hj ?_ _ _)
    | (with_reducible refine Fr_x5_store hj ?_ _ _)
    | (with_reducible refine Fr_x7_store hj ?_ _ _)
    | (with_reducible refine Fr_x9_store hj ?_ _ _)
    | (with_reducible refine Fr_x10_store hj ?_ _ _)
    | (with_reducible refine Fr_x8_store hj ?_ _ _)
    | (with_reducible refine Fr_x6_store hj ?_ _ _)
    | (with_reducible refine Fr_x3_store hj ?_ _ _)
    | (with_reducible refine Fr_x2_store hj ?_ _ _)
    | (with_reducible refine Fr_x6_load hj ?_ _)
    | (with_reducible refine Fr_k ?_ (by decide))
    | (with_reducible refine Fr_0 ?_ (by rcases hj with rfl | rfl <;> decide))
    | with_reducible refine Fr_ite ?_ ?_
    | with_reducible refine FrP_ite ?_ ?_
    | with_reducible refine Fr_ltS ?_ ?_
    | with_reducible refine Fr_ltP ?_ ?_
    | with_reducible refine Fr_lti ?_
    | with_reducible refine FrP_ltS ?_ ?_
    | with_reducible refine FrP_ltP ?_ ?_
    | with_reducible refine FrP_lti ?_
    | with_reducible refine FrP_i ?_)
theorem Fr_x2_toStack {j : Nat} (hj : j = 0 ∨ j = 6) {c : Int32} {s : Sg} (h : Fr j c s) (x1 : Int32) : Fr j c (x2_toStack s x1) := by
  unfold x2_toStack
  repeat' (first
    | assumption
    | (intro v s h)
    | (intro s h)
    | (intro x)
    | (with_reducible refine Fr_x4_store hj ?_ _ _)
    | (with_reducible refine Fr_x5_store hj ?_ _ _)
    | (with_reducible refine Fr_x7_store hj ?_ _ _)
    | (with_reducible refine Fr_x9_store hj ?_ _ _)
    | (with_reducible refine Fr_x10_store hj ?_ _ _)
    | (with_reducible refine Fr_x8_store hj ?_ _ _)
    | (with_reducible refine Fr_x6_store hj ?_ _ _)
    | (with_reducible refine Fr_x3_store hj ?_ _ _)
    | (with_reducible refine Fr_x2_store hj ?_ _ _)
    | (with_reducible refine Fr_x6_load hj ?_ _)
    | (with_reducible refine Fr_x2_load hj ?_ _)
    | (with_reducible refine Fr_k ?_ (by decide))
    | (with_reducible refine Fr_0 ?_ (by rcases hj with rfl | rfl <;> decide))
    | with_reducible refine Fr_ite ?_ ?_
    | with_reducible refine FrP_ite ?_ ?_
    | with_reducible refine Fr_ltS ?_ ?_
    | with_reducible refine Fr_ltP ?_ ?_
    | with_reducible refine Fr_lti ?_
    | with_reducible refine FrP_ltS ?_ ?_
    | with_reducible refine FrP_ltP ?_ ?_
    | with_reducible refine FrP_lti ?_
    | with_reducible refine FrP_i ?_)
theorem Fr_x2_push {j : Nat} (hj : j = 0 ∨ j = 6) {c : Int32} {s : Sg} (h : Fr j c s) (x1 : Int32) : Fr j c (x2_push s x1) := by
  unfold x2_push
  repeat' (first
    | assumption
    | (intro v s h)
    | (intro s h)
    | (intro x)
    | (with_reducible refine Fr_x4_store hj ?_ _ _)
    | (with_reducible refine Fr_x5_store hj ?_ _ _)
    | (with_reducible refine Fr_x7_store hj ?_ _ _)
    | (with_reducible refine Fr_x9_store hj ?_ _ _)
    | (with_reducible refine Fr_x10_store hj ?_ _ _)
    | (with_reducible refine Fr_x8_store hj ?_ _ _)
    | (with_reducible refine Fr_x6_store hj ?_ _ _)
    | (with_reducible refine Fr_x3_store hj ?_ _ _)
    | (with_reducible refine Fr_x2_store hj ?_ _ _)
    | (with_reducible refine Fr_x6_load hj ?_ _)
    | (with_reducible refine Fr_x2_load hj ?_ _)
    | (with_reducible refine Fr_x2_toStack hj ?_ _)
    | (with_reducible refine Fr_k ?_ (by decide))
    | (with_reducible refine Fr_0 ?_ (by rcases hj with rfl | rfl <;> decide))
    | with_reducible refine Fr_ite ?_ ?_
    | with_reducible refine FrP_ite ?_ ?_
    | with_reducible refine Fr_ltS ?_ ?_
    | with_reducible refine Fr_ltP ?_ ?_
    | with_reducible refine Fr_lti ?_
    | with_reducible refine FrP_ltS ?_ ?_
    | with_reducible refine FrP_ltP ?_ ?_
    | with_reducible refine FrP_lti ?_
    | with_reducible refine FrP_i ?_)
theorem Fr_x2_pop {j : Nat} (hj : j = 0 ∨ j = 6) {c : Int32} {s : Sg} (h : Fr j c s)  : FrP j c (x2_pop s ) := by
  unfold x2_pop
  repeat' (first
    | assumption
    | (intro v s h)
    | (intro s h)
    | (intro x)
    | (with_reducible refine Fr_x4_store hj ?_ _ _)
    | (with_reducible refine Fr_x5_store hj ?_ _ _)
    | (with_reducible refine Fr_x7_store hj ?_ _ _)
    | (with_reducible refine Fr_x9_store hj ?_ _ _)
    | (with_reducible refine Fr_x10_store hj ?_ _ _)
    | (with_reducible refine Fr_x8_store hj ?_ _ _)
    | (with_reducible refine Fr_x6_store hj ?_ _ _)
    | (with_reducible refine Fr_x3_store hj ?_ _ _)
    | (with_reducible refine Fr_x2_store hj ?_ _ _)
    | (with_reducible refine Fr_x6_load hj ?_ _)
    | (with_reducible refine Fr_x2_load hj ?_ _)
    | (with_reducible refine Fr_x2_toStack hj ?_ _)
    | (with_reducible refine Fr_x2_push hj ?_ _)
    | (with_reducible refine Fr_k ?_ (by decide))
    | (with_reducible refine Fr_0 ?_ (by rcases hj with rfl | rfl <;> decide))
    | with_reducible refine Fr_ite ?_ ?_
    | with_reducible refine FrP_ite ?_ ?_
    | with_reducible refine Fr_ltS ?_ ?_
    | with_reducible refine Fr_ltP ?_ ?_
    | with_reducible refine Fr_lti ?_
    | with_reducible refine FrP_ltS ?_ ?_
    | with_reducible refine FrP_ltP ?_ ?_
    | with_reducible refine FrP_lti ?_
    | with_reducible refine FrP_i ?_)
theorem rg_stack {σ : Sg} (ok : XOK σ) : rg 0 65535 (x2_stack σ) := rg_or 16 (rg_shl 8 (by decide +kernel) (xr_1 ok _) (by decide)) (xr_1 ok _) (by decide) (by decide) (by decide)
theorem rg_pair {σ : Sg} (ok : XOK σ) (a : Int32) : rg 0 65535 (x2_pair σ a) := rg_or 16 (rg_shl 8 (by decide +kernel) (xr_1 ok _) (by decide)) (xr_1 ok _) (by decide) (by decide) (by decide)
theorem R_push {b : Bool} {σ τ : Sg} (h : R b σ τ) (ok : XOK σ) {v : Int32} (hv : rg 0 255 v) : R b (x2_push σ v) (m_push τ v) := by
  unfold x2_push m_push
  rw [mptr93, ← R_stack h]
  refine ltl_R (ltr_R ?_)
  refine ltS_R (R_store h ok (rg_stack ok) hv) (fun s t h2 => ?_)
  rw [msetptr93]
  exact ltS_R (R_x2_toStack h2 _) (fun s t h => h)
theorem R_pushPlace {b : Bool} {σ τ : Sg} (h : R b σ τ) (ok : XOK σ) : R b (x2_pushPlace σ) (m_pushPlace τ (τ 0 0)) := by
  unfold x2_pushPlace m_pushPlace
  have hp := h.sc 0 rfl
  have h1 := R_push h ok (v := σ 0 0 &&& 255) (rg_and_r (rg_w rl_255 (by decide) (by decide)))
  have hf : (x2_push σ (σ 0 0 &&& 255)) 0 0 = σ 0 0 := Fr_x2_push (Or.inl rfl) (show Fr 0 (σ 0 0) σ from rfl) _
  have ok1 := ok_x2_push σ (σ 0 0 &&& 255) ok
  rw [← hp]
  refine ltl_R (ltr_R ?_)
  rw [hf]
  refine ltS_R (R_push h1 ok1 (rg_w (rg_shr 8 (by decide +kernel) (xr0_0 ok)) (by decide) (by decide))) (fun s t h => h)
theorem toStack16 (σ : Sg) (v : Int32) : x2_toStack σ (v &&& 65535) = x2_toStack σ v := by unfold x2_toStack; rw [lo16, hi16]
theorem stack_to (σ : Sg) (v : Int32) : x2_stack (x2_toStack σ v) = v &&& 65535 := by
  have e : x2_stack (x2_toStack σ v) = ((((v >>> (8 : Int32)) &&& 255) <<< (8 : Int32)) ||| (v &&& 255)) := rfl
  rw [e]
  refine i_eq.mpr ?_
  rw [orInt (rg_and_r (rg_w rl_255 (by decide) (by decide))) (rg_and_r (rg_w rl_255 (by decide) (by decide))), and255, and255, shr8i, and65535]
  omega
theorem ltl_P {α : Type} {b : Bool} {x : α} {f : α → Int32 × Sg} {t : Int32 × Sg} (h : RP b (f x) t) : RP b (lt x f) t := h
theorem ltr_P {α : Type} {b : Bool} {x : α} {f : α → Int32 × Sg} {s : Int32 × Sg} (h : RP b s (f x)) : RP b s (lt x f) := h
theorem ltS_P' {b : Bool} {s t : Sg} {f g : Sg → Int32 × Sg} (h : R b s t) (k : RP b (f s) (g t)) : RP b (lt s f) (lt t g) := k
theorem R_pop {b : Bool} {σ τ : Sg} (h : R b σ τ) (ok : XOK σ) : RP b (x2_pop σ) (m_pop τ) := by
  unfold x2_pop m_pop
  rw [mptr93, ← R_stack h]
  refine ltr_P ?_
  rw [msetptr93, toStack16]
  refine ltS_P' (R_x2_toStack h _) ?_
  rw [stack_to]
  exact ltP_P (R_load (R_x2_toStack h _) (rg_and_r (rg_w rl_65535 (by decide) (by decide)))) (fun v s t h => RP_i rfl h)

