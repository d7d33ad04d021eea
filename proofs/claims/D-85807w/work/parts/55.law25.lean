/-! PLAIN LAW 25: what waits, and the entry -/
set_option maxRecDepth 100000
theorem ee_10 {p q r : Int32} (h : ek p q r) : (((p ||| q) ||| r) &&& 10) = 8 ↔ ((¬ (p &&& 8) = 0) ∧ r = 0) := by
  obtain ⟨h1, h2, h3⟩ := h
  rcases h1 with rfl | rfl <;> rcases h2 with rfl | rfl <;> rcases h3 with rfl | rfl <;> decide
theorem R_is10 {b : Bool} {σ τ : Sg} (h : R b σ τ) : ((¬ (((σ 1 63) &&& 8) = 0)) ∧ ((σ 0 22) = 0)) ↔ ((τ 1 63) &&& 10) = 8 := by
  rw [h.ee, ee_10 (ee_k h)]
  have h2 := pos_iff (h.wi 22 rfl)
  have h3 : (if 0 < σ 0 22 then (2 : Int32) else 0) = 0 ↔ σ 0 22 = 0 := by
    by_cases q : 0 < σ 0 22
    · rw [if_pos q]; exact ⟨fun z => absurd z (by decide), fun z => absurd z (h2.mp q)⟩
    · rw [if_neg q]
      refine ⟨fun _ => ?_, fun _ => rfl⟩
      by_cases z : σ 0 22 = 0
      · exact z
      · exact absurd (h2.mpr z) q
  rw [h3]
theorem R_waits {b : Bool} {σ τ : Sg} (h : R b σ τ) : x2_waits σ = m_awaited τ := by
  unfold x2_waits m_awaited
  rw [R_is h 128, m_flag_7, ← x2_is_eq]
  refine lt_r ?_
  refine ite_e (fun _ => rfl) (fun _ => ?_)
  unfold m_interrupt
  refine lt_r ?_
  refine lt_l ?_
  refine lt_r ?_
  refine lt_l ?_
  refine lt_r ?_
  rw [h.s2, h.da 53 rfl, h.da 110 rfl, h.da 193 rfl, h.da 96 rfl]
  refine ite_e (fun _ => rfl) (fun _ => ?_)
  refine ite_e (fun _ => ?_) (fun _ => rfl)
  refine ite_e (fun _ => ?_) (fun _ => rfl)
  refine ite_e (fun _ => ?_) (fun _ => rfl)
  refine ite_e (fun _ => ?_) (fun _ => rfl)
  refine ite_e (fun _ => ?_) (fun _ => rfl)
  rw [ififf (R_is10 h)]
  refine ite_e (fun _ => rfl) (fun _ => ?_)
  rw [h.da 87 rfl]
/-- one of the board's own line scalars, its bit in 192 -/
theorem R_lx {b : Bool} {σ τ : Sg} (h : R b σ τ) {j : Nat} (v w : Int32) (hj : j = 31 ∨ j = 32 ∨ j = 33) (hw : w = x6_state (sst σ 0 j v)) : R b (sst σ 0 j v) (sst τ 1 192 w) := by
  refine R_line h ?_ ?_ ?_ ?_ ?_ ?_ ?_ ?_ ?_ ?_
  · intro i a1 a2 a3 a4 a5 a6 a7 a8
    have : i ≠ j := by omega
    simp [sst_get, this]
  · rw [sst_ne_j _ _ (by omega), sst_ne_k _ _ (by decide)]; exact h.sc 11 rfl
  · rw [sst_ne_j _ _ (by omega), sst_ne_k _ _ (by decide)]; exact h.sc 14 rfl
  · rw [sst_ne_j _ _ (by omega), sst_ne_k _ _ (by decide)]; exact h.sc 16 rfl
  · rw [sst_ne_j _ _ (by omega), sst_ne_k _ _ (by decide)]; exact h.sc 17 rfl
  · rw [sst_ne_j _ _ (by omega), sst_ne_k _ _ (by decide)]; exact h.sc 18 rfl
  · intro i; exact sst_ne_k _ _ (by decide)
  · intro i hi; exact sst_ne_j _ _ hi
  · intro k hk
    exact ⟨sst_row _ _ (by omega), sst_row _ _ (by omega)⟩
  · rw [sst_eq, hw]
theorem R_32z {b : Bool} {σ τ : Sg} (h : R b σ τ) : R b (sst σ 0 32 0) (sst τ 1 192 ((τ 1 192) &&& 191)) := by
  refine R_lx h _ _ (Or.inr (Or.inl rfl)) ?_
  rw [h.s2, st_v, st_b0 (st_k σ)]; rfl
theorem R_32s {b : Bool} {σ τ : Sg} (h : R b σ τ) : R b (sst σ 0 32 1) (sst τ 1 192 ((τ 1 192) ||| 64)) := by
  refine R_lx h _ _ (Or.inr (Or.inl rfl)) ?_
  rw [h.s2, st_v, st_b1 (st_k σ)]; rfl
theorem R_31s {b : Bool} {σ τ : Sg} (h : R b σ τ) : R b (sst σ 0 31 1) (sst τ 1 192 ((τ 1 192) ||| 8)) := by
  refine R_lx h _ _ (Or.inl rfl) ?_
  rw [h.s2, st_v, st_d1 (st_k σ)]; rfl
/-- what the entry does after its place is pushed: the bit, the place, the count -/
def enT (v : Int32) (s : Sg) : Sg := sst (x2_set s 128 0) 0 0 ((2 * v) + (if ((s 1 85) &&& 2) = 0 then 0 else 1536))
theorem enT_comm (v : Int32) (s : Sg) {k j : Nat} (w : Int32) (h1 : ¬ (k = 1 ∧ j = 95)) (h2 : ¬ (k = 1 ∧ j = 85)) (h3 : ¬ (k = 0 ∧ j = 0)) : enT v (sst s k j w) = sst (enT v s) k j w := by
  have r : ∀ i, ¬ (k = 1 ∧ j = i) → sst s k j w 1 i = s 1 i := by
    intro i hi
    rw [sst_get, if_neg (by intro z; exact hi ⟨z.1.symm, z.2.symm⟩)]
  unfold enT
  rw [x2_set_eq, x2_set_eq, r 95 h1, r 85 h2, sst_comm s _ _ h1, sst_comm (sst s 1 95 _) _ _ h3]
theorem enT_get (v : Int32) (s : Sg) {k j : Nat} (h1 : ¬ (k = 1 ∧ j = 95)) (h3 : ¬ (k = 0 ∧ j = 0)) : enT v s k j = s k j := by
  unfold enT
  rw [x2_set_eq, sst_get, if_neg h3, sst_get, if_neg h1]
theorem m_enT (v : Int32) (s : Sg) : (lt (m_setFlag s 7 0) fun s108 => lt ((if ((s108 1 85) &&& 2) = 0 then 0 else 1536) : Int32) fun z124 => lt (sst s108 0 0 ((2 * v) + z124)) fun s135 => lt (sst s135 0 4 ((s135 0 4) + 1)) fun s145 => s145) = sst (enT v s) 0 4 ((s 0 4) + 1) := by
  refine lt_l ?_
  rw [setFlag_set, bsh7]
  refine lt_l ?_
  refine lt_l ?_
  refine lt_l ?_
  have e : x2_set s 128 0 1 85 = s 1 85 := by rw [x2_set_eq]; exact sst_ne_j _ _ (by decide)
  rw [e]
  have e4 : enT v s 0 4 = s 0 4 := enT_get v s (by decide) (by decide)
  show sst (enT v s) 0 4 ((enT v s) 0 4 + 1) = _
  rw [e4]
theorem R_enT {b : Bool} {s t : Sg} (h : R b s t) {v : Int32} (hv : rg 1 8 v) : R b (x2_go (x2_set s 128 0) ((2 * v) + (if ((x2_set s 128 0 1 85) &&& 2) = 0 then 0 else 1536))) (enT v t) := by
  unfold x2_go enT
  have e : x2_set s 128 0 1 85 = s 1 85 := by rw [x2_set_eq]; exact sst_ne_j _ _ (by decide)
  rw [e, ← h.da 85 rfl]
  have hr : rg 0 2047 ((2 * v) + (if ((s 1 85) &&& 2) = 0 then (0 : Int32) else 1536)) := rg_w (rg_add (rg_mul (rg_w rl_2 (by decide) (by decide) : rg 0 2 2) (rg_w hv (by decide) (by decide) : rg 0 8 v) (by decide)) (rg_ite (rg_w rl_0 (by decide) (by decide) : rg 0 1536 0) (rg_w rl_1536 (by decide) (by decide))) (by decide) (by decide)) (by decide) (by decide)
  rw [m2047 hr]
  refine ltl_R (R_pc (R_x2_set h 128 0) rfl)
theorem dog8_m {w m : Int32} (hm : m = 127 ∨ m = 63) (h : ¬ w &&& 8 = 0) : ¬ (w &&& m) &&& 8 = 0 := by
  have h1 : (w &&& m) &&& 8 = w &&& 8 := by
    rw [Int32.and_assoc]
    rcases hm with rfl | rfl <;> rfl
  rw [h1]; exact h
theorem R_53a {b : Bool} {σ τ : Sg} (h : R b σ τ) (ok : XOK σ) {p q : Int32} (e : 255 &&& p = 255 &&& q) : R b (sst σ 1 53 ((σ 1 53) &&& p)) (sst τ 1 53 ((τ 1 53) &&& q)) := by
  rw [← h.da 53 rfl, byte_and (xr_1 ok 53) e]
  exact R_da h rfl (fun _ => rg_and_l h.d53) (fun q => absurd q (by decide)) (fun q => absurd q (by decide)) (fun q => absurd q (by decide)) (fun q => absurd q (by decide)) (fun _ _ q => by cases q)
theorem R_entry {b : Bool} {σ τ : Sg} (h : R b σ τ) (ok : XOK σ) {v : Int32} (hv : rg 1 8 v) : R b (x2_entry σ v) (m_enter τ v) := by
  unfold x2_entry m_enter
  have h0 : R b (sst σ 0 6 0) (sst τ 0 6 0) := R_sleep h rfl (Or.inl rfl)
  have o0 : XOK (sst σ 0 6 0) := xst_0_6 ok (rg_w rl_0 (by decide) (by decide))
  have h1 := R_pushPlace h0 o0
  have o1 := ok_x2_pushPlace _ o0
  refine ltl_R (ltr_R ?_)
  revert h1 o1
  generalize x2_pushPlace (sst σ 0 6 0) = s
  generalize m_pushPlace (sst τ 0 6 0) ((sst τ 0 6 0) 0 0) = t
  intro h1 o1
  refine ltl_R (ltr_R ?_)
  have h2 := R_enT h1 hv
  have o2 : XOK (x2_go (x2_set s 128 0) ((2 * v) + (if ((x2_set s 128 0 1 85) &&& 2) = 0 then 0 else 1536))) := by
    refine ok_x2_go _ _ (ok_x2_set s 128 0 o1 (rg_w rl_128 (by decide) (by decide)) (rg_w rl_0 (by decide) (by decide)))
  refine ltl_R (ltl_R ?_)
  revert h2 o2
  generalize x2_go (x2_set s 128 0) ((2 * v) + (if ((x2_set s 128 0 1 85) &&& 2) = 0 then 0 else 1536)) = S
  intro h2 o2
  have fin : ∀ (S T : Sg) (k : Int32), R b S T → k = S 0 4 + 1 → R b (lt (sst S 0 4 ((S 0 4) + 1)) fun s134 => s134) (sst T 0 4 k) := by
    intro S T k hh hk
    exact ltl_R (R_scal hh hk.symm rfl (fun q => by cases q))
  have n12 : ∀ {a c : Int32}, v = a → ¬ a = c → ¬ v = c := fun e n z => n (e.symm.trans z)
  have t4 : ∀ {T : Sg}, R b S T → S 0 4 = T 0 4 := fun hh => hh.sc 4 rfl
  by_cases v1 : v = 1
  · have m2 := n12 v1 (show ¬ (1 : Int32) = 2 by decide)
    have m3 := n12 v1 (show ¬ (1 : Int32) = 3 by decide)
    have m6 := n12 v1 (show ¬ (1 : Int32) = 6 by decide)
    simp only [if_pos v1, if_neg m2, if_neg m3, if_neg m6]
    refine ltl_R ?_
    refine ltl_R (ltl_R (ltl_R (ltl_R ?_)))
    refine ltr_R (ltr_R (ltr_R (ltr_R ?_)))
    rw [m_enT v]
    rw [lt_g (if ((S 1 96) &&& 8) = 0 then (127 : Int32) else 63), lt_g (if ((t 1 96) &&& 8) = 0 then (127 : Int32) else 63)]
    rw [lt_g (sst S 1 96 _), lt_g (sst t 1 96 _)]
    have e96 : S 1 96 = t 1 96 := (h2.da 96 rfl).trans (enT_get v t (by decide) (by decide))
    have h84 : S 1 84 = t 1 84 := (h2.da 84 rfl).trans (enT_get v t (by decide) (by decide))
    rw [e96, enT_comm v t _ (by decide) (by decide) (by decide), sst_ne_k t _ (by decide)]
    have hd := h2.dg
    rw [e96] at hd
    generalize hmm : (if ((t 1 96) &&& 8) = 0 then (127 : Int32) else 63) = m
    have hm : m = 127 ∨ m = 63 := by
      rw [← hmm]; by_cases c : (t 1 96) &&& 8 = 0
      · exact Or.inl (if_pos c)
      · exact Or.inr (if_neg c)
    refine fin _ _ _ (R_96 h2 (fun z => dog8_m hm (hd z))) ?_
    rw [sst_ne_k S _ (by decide), h2.sc 4 rfl, enT_get v t (by decide) (by decide)]
  by_cases v2 : v = 2
  · have m3 := n12 v2 (show ¬ (2 : Int32) = 3 by decide)
    have m6 := n12 v2 (show ¬ (2 : Int32) = 6 by decide)
    simp only [if_neg v1, if_pos v2, if_neg m3, if_neg m6]
    refine ltl_R ?_
    refine ltl_R (ltl_R (ltl_R (ltl_R ?_)))
    refine ltr_R (ltr_R (ltr_R (ltr_R ?_)))
    rw [m_enT v]
    rw [lt_g (sst S 1 53 _), lt_g (sst t 1 53 _)]
    have e53 : (enT v t) 1 53 = t 1 53 := enT_get v t (by decide) (by decide)
    rw [enT_comm v t _ (by decide) (by decide) (by decide), sst_ne_k t _ (by decide), ← e53]
    refine fin _ _ _ (R_53a h2 o2 (by decide)) ?_
    rw [sst_ne_k S _ (by decide), h2.sc 4 rfl, enT_get v t (by decide) (by decide)]
  by_cases v3 : v = 3
  · have m6 := n12 v3 (show ¬ (3 : Int32) = 6 by decide)
    simp only [if_neg v1, if_neg v2, if_pos v3, if_neg m6]
    refine ltl_R ?_
    refine ltl_R (ltl_R (ltl_R (ltl_R ?_)))
    refine ltr_R (ltr_R (ltr_R (ltr_R ?_)))
    rw [m_enT v]
    rw [lt_g (sst S 1 53 _), lt_g (sst t 1 53 _)]
    have e53 : (enT v t) 1 53 = t 1 53 := enT_get v t (by decide) (by decide)
    rw [enT_comm v t _ (by decide) (by decide) (by decide), sst_ne_k t _ (by decide), ← e53]
    refine fin _ _ _ (R_53a h2 o2 (by decide)) ?_
    rw [sst_ne_k S _ (by decide), h2.sc 4 rfl, enT_get v t (by decide) (by decide)]
  by_cases v6 : v = 6
  · simp only [if_neg v1, if_neg v2, if_neg v3, if_pos v6]
    refine ltl_R ?_
    refine ltl_R (ltl_R (ltl_R (ltl_R ?_)))
    refine ltr_R (ltr_R (ltr_R (ltr_R ?_)))
    rw [m_enT v]
    rw [lt_g (sst S 0 32 _), lt_g (sst t 1 192 _)]
    have e192 : (enT v t) 1 192 = t 1 192 := enT_get v t (by decide) (by decide)
    rw [enT_comm v t _ (by decide) (by decide) (by decide), sst_ne_k t _ (by decide), ← e192]
    refine fin _ _ _ (R_32z h2) ?_
    rw [sst_ne_j S _ (by decide), h2.sc 4 rfl, enT_get v t (by decide) (by decide)]
  simp only [if_neg v1, if_neg v2, if_neg v3, if_neg v6]
  refine ltl_R ?_
  refine ltl_R (ltl_R (ltl_R (ltl_R ?_)))
  refine ltr_R (ltr_R (ltr_R (ltr_R ?_)))
  rw [m_enT v]
  refine fin _ _ _ h2 ?_
  rw [h2.sc 4 rfl, enT_get v t (by decide) (by decide)]
