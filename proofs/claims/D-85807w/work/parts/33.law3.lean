/-! PLAIN LAW 3: the relation R between the board's state and the model's; its rows for writes -/
set_option maxRecDepth 100000
def scal (j : Nat) : Bool := j == 0 || (decide (2 ≤ j) && decide (j < 30))
def win (j : Nat) : Bool := j == 13 || j == 21 || j == 22 || j == 23 || j == 25 || j == 26 || j == 27
def okj (j : Nat) : Bool := j != 63 && j != 192
def R (b : Bool) (σ τ : Sg) : Prop := (∀ j, scal j = true → σ 0 j = τ 0 j) ∧ (b = true → σ 0 1 = τ 0 1) ∧ (∀ j, okj j = true → σ 1 j = τ 1 j) ∧ (σ 2 = τ 2) ∧ (σ 3 = τ 3) ∧ (σ 4 = τ 4) ∧ (τ 1 192 = x6_state σ) ∧ (τ 1 63 = ((σ 1 63 ||| (if 0 < σ 0 21 then 4 else 0)) ||| (if 0 < σ 0 22 then 2 else 0))) ∧ (σ 1 63 &&& 8 = σ 1 63) ∧ (∀ j, j < 32 → (σ 5 j < 0 ∧ τ 7 j = 0) ∨ (¬ σ 5 j < 0 ∧ τ 7 j = 1 ∧ σ 5 j = τ 5 j)) ∧ (∀ k, k < (σ 0 19).toNatClampNeg → σ 6 (((σ 0 34).toNatClampNeg + k) % 300) = τ 6 k) ∧ (∀ j, win j = true → 0 ≤ (σ 0 j).toInt) ∧ (rg 0 3 (σ 1 53)) ∧ (rg 0 3 (σ 1 85)) ∧ (σ 1 87 &&& 32 = 0) ∧ (¬ (σ 1 84 &&& 8 = 0) → ¬ (σ 1 96 &&& 8 = 0)) ∧ (∀ j, 32 ≤ j → j < 256 → uAt j = none → σ 1 j = 0) ∧ (σ 0 30 = 0) ∧ (σ 0 6 = 0 ∨ σ 0 7 = 0)
theorem R.sc {b : Bool} {σ τ : Sg} (h : R b σ τ) : ∀ j, scal j = true → σ 0 j = τ 0 j := h.1
theorem R.mo {b : Bool} {σ τ : Sg} (h : R b σ τ) : b = true → σ 0 1 = τ 0 1 := h.2.1
theorem R.da {b : Bool} {σ τ : Sg} (h : R b σ τ) : ∀ j, okj j = true → σ 1 j = τ 1 j := h.2.2.1
theorem R.fl {b : Bool} {σ τ : Sg} (h : R b σ τ) : σ 2 = τ 2 := h.2.2.2.1
theorem R.er {b : Bool} {σ τ : Sg} (h : R b σ τ) : σ 3 = τ 3 := h.2.2.2.2.1
theorem R.kp {b : Bool} {σ τ : Sg} (h : R b σ τ) : σ 4 = τ 4 := h.2.2.2.2.2.1
theorem R.s2 {b : Bool} {σ τ : Sg} (h : R b σ τ) : τ 1 192 = x6_state σ := h.2.2.2.2.2.2.1
theorem R.ee {b : Bool} {σ τ : Sg} (h : R b σ τ) : τ 1 63 = ((σ 1 63 ||| (if 0 < σ 0 21 then 4 else 0)) ||| (if 0 < σ 0 22 then 2 else 0)) := h.2.2.2.2.2.2.2.1
theorem R.e8 {b : Bool} {σ τ : Sg} (h : R b σ τ) : σ 1 63 &&& 8 = σ 1 63 := h.2.2.2.2.2.2.2.2.1
theorem R.bu {b : Bool} {σ τ : Sg} (h : R b σ τ) : ∀ j, j < 32 → (σ 5 j < 0 ∧ τ 7 j = 0) ∨ (¬ σ 5 j < 0 ∧ τ 7 j = 1 ∧ σ 5 j = τ 5 j) := h.2.2.2.2.2.2.2.2.2.1
theorem R.ri {b : Bool} {σ τ : Sg} (h : R b σ τ) : ∀ k, k < (σ 0 19).toNatClampNeg → σ 6 (((σ 0 34).toNatClampNeg + k) % 300) = τ 6 k := h.2.2.2.2.2.2.2.2.2.2.1
theorem R.wi {b : Bool} {σ τ : Sg} (h : R b σ τ) : ∀ j, win j = true → 0 ≤ (σ 0 j).toInt := h.2.2.2.2.2.2.2.2.2.2.2.1
theorem R.d53 {b : Bool} {σ τ : Sg} (h : R b σ τ) : rg 0 3 (σ 1 53) := h.2.2.2.2.2.2.2.2.2.2.2.2.1
theorem R.d85 {b : Bool} {σ τ : Sg} (h : R b σ τ) : rg 0 3 (σ 1 85) := h.2.2.2.2.2.2.2.2.2.2.2.2.2.1
theorem R.d87 {b : Bool} {σ τ : Sg} (h : R b σ τ) : σ 1 87 &&& 32 = 0 := h.2.2.2.2.2.2.2.2.2.2.2.2.2.2.1
theorem R.dg {b : Bool} {σ τ : Sg} (h : R b σ τ) : ¬ (σ 1 84 &&& 8 = 0) → ¬ (σ 1 96 &&& 8 = 0) := h.2.2.2.2.2.2.2.2.2.2.2.2.2.2.2.1
theorem R.un {b : Bool} {σ τ : Sg} (h : R b σ τ) : ∀ j, 32 ≤ j → j < 256 → uAt j = none → σ 1 j = 0 := h.2.2.2.2.2.2.2.2.2.2.2.2.2.2.2.2.1
theorem R.rs {b : Bool} {σ τ : Sg} (h : R b σ τ) : σ 0 30 = 0 := h.2.2.2.2.2.2.2.2.2.2.2.2.2.2.2.2.2.1
theorem R.sf {b : Bool} {σ τ : Sg} (h : R b σ τ) : σ 0 6 = 0 ∨ σ 0 7 = 0 := h.2.2.2.2.2.2.2.2.2.2.2.2.2.2.2.2.2.2
theorem R_mk {b : Bool} {σ τ : Sg} (sc : ∀ j, scal j = true → σ 0 j = τ 0 j) (mo : b = true → σ 0 1 = τ 0 1) (da : ∀ j, okj j = true → σ 1 j = τ 1 j) (fl : σ 2 = τ 2) (er : σ 3 = τ 3) (kp : σ 4 = τ 4) (s2 : τ 1 192 = x6_state σ) (ee : τ 1 63 = ((σ 1 63 ||| (if 0 < σ 0 21 then 4 else 0)) ||| (if 0 < σ 0 22 then 2 else 0))) (e8 : σ 1 63 &&& 8 = σ 1 63) (bu : ∀ j, j < 32 → (σ 5 j < 0 ∧ τ 7 j = 0) ∨ (¬ σ 5 j < 0 ∧ τ 7 j = 1 ∧ σ 5 j = τ 5 j)) (ri : ∀ k, k < (σ 0 19).toNatClampNeg → σ 6 (((σ 0 34).toNatClampNeg + k) % 300) = τ 6 k) (wi : ∀ j, win j = true → 0 ≤ (σ 0 j).toInt) (d53 : rg 0 3 (σ 1 53)) (d85 : rg 0 3 (σ 1 85)) (d87 : σ 1 87 &&& 32 = 0) (dg : ¬ (σ 1 84 &&& 8 = 0) → ¬ (σ 1 96 &&& 8 = 0)) (un : ∀ j, 32 ≤ j → j < 256 → uAt j = none → σ 1 j = 0) (rs : σ 0 30 = 0) (sf : σ 0 6 = 0 ∨ σ 0 7 = 0) : R b σ τ := ⟨sc, mo, da, fl, er, kp, s2, ee, e8, bu, ri, wi, d53, d85, d87, dg, un, rs, sf⟩
theorem R.weak {b : Bool} {σ τ : Sg} (h : R b σ τ) : R false σ τ := ⟨h.sc, (fun q => Bool.noConfusion q), h.2.2⟩
theorem x6s_0 (σ τ : Sg) (h1 : σ 0 18 = τ 0 18) (h2 : σ 0 32 = τ 0 32) (h3 : σ 0 11 = τ 0 11) (h4 : σ 0 31 = τ 0 31) (h5 : σ 0 33 = τ 0 33) : x6_state σ = x6_state τ := by unfold x6_state; rw [h1, h2, h3, h4, h5]
/-- a byte of data, not 63, not 192 -/
theorem R_da {b : Bool} {σ τ : Sg} (h : R b σ τ) {j : Nat} {v : Int32} (ho : okj j = true) (h53 : j = 53 → rg 0 3 v) (h85 : j = 85 → rg 0 3 v) (h87 : j = 87 → v &&& 32 = 0) (h84 : j = 84 → ¬ (v &&& 8 = 0) → ¬ (σ 1 96 &&& 8 = 0)) (h96 : j = 96 → ¬ (σ 1 84 &&& 8 = 0) → ¬ (v &&& 8 = 0)) (hun : 32 ≤ j → j < 256 → uAt j = none → v = 0) : R b (sst σ 1 j v) (sst τ 1 j v) := by
  have n63 : 63 ≠ j := by intro q; subst q; cases ho
  have n192 : 192 ≠ j := by intro q; subst q; cases ho
  refine R_mk h.sc h.mo ?_ h.fl h.er h.kp ?_ ?_ ?_ h.bu h.ri h.wi ?_ ?_ ?_ ?_ ?_ h.rs h.sf
  · intro i hi
    rw [sst_get, sst_get, h.da i hi]
  · rw [sst_ne_j _ _ n192]; exact h.s2
  · rw [sst_ne_j _ _ n63, sst_ne_j _ _ n63]; exact h.ee
  · rw [sst_ne_j _ _ n63]; exact h.e8
  · rw [sst_get]; split
    · rename_i q; exact h53 q.2.symm
    · exact h.d53
  · rw [sst_get]; split
    · rename_i q; exact h85 q.2.symm
    · exact h.d85
  · rw [sst_get]; split
    · rename_i q; exact h87 q.2.symm
    · exact h.d87
  · rw [sst_get, sst_get]
    by_cases q : 84 = j
    · rw [if_pos ⟨rfl, q⟩, if_neg (by intro z; have := z.2; omega)]; exact h84 q.symm
    · rw [if_neg (fun z => q z.2)]
      by_cases q2 : 96 = j
      · rw [if_pos ⟨rfl, q2⟩]; exact h96 q2.symm
      · rw [if_neg (fun z => q2 z.2)]; exact h.dg
  · intro i h1 h2 h3
    rw [sst_get]; split
    · rename_i q; obtain ⟨_, rfl⟩ := q; exact hun h1 h2 h3
    · exact h.un i h1 h2 h3
def regish (j : Nat) : Bool := decide (j < 32) || j == 93 || j == 94 || j == 95
theorem regish_okj {j : Nat} (h : regish j = true) : okj j = true := by
  unfold regish at h; unfold okj
  simp at h ⊢
  omega
theorem R_reg {b : Bool} {σ τ : Sg} (h : R b σ τ) {j : Nat} {v w : Int32} (e : v = w) (ho : regish j = true) : R b (sst σ 1 j v) (sst τ 1 j w) := by
  subst e
  have hj : j < 32 ∨ j = 93 ∨ j = 94 ∨ j = 95 := by unfold regish at ho; simp at ho; omega
  exact R_da h (regish_okj ho) (by intro q; omega) (by intro q; omega) (by intro q; omega) (by intro q; omega) (by intro q; omega) (by
    intro h1 h2 h3
    rcases hj with q | q | q | q
    · omega
    · subst q; cases h3
    · subst q; cases h3
    · subst q; cases h3)
/-- a plain scalar -/
def sok (j : Nat) : Bool := scal j && (j != 6 && (j != 7 && (j != 11 && (j != 18 && (j != 19 && (j != 21 && j != 22))))))
theorem R_scal {b : Bool} {σ τ : Sg} (h : R b σ τ) {j : Nat} {v w : Int32} (e : v = w) (ho : sok j = true) (hw : win j = true → 0 ≤ v.toInt) : R b (sst σ 0 j v) (sst τ 0 j w) := by
  subst e
  unfold sok scal at ho
  simp at ho
  refine R_mk ?_ ?_ h.da h.fl h.er h.kp ?_ ?_ h.e8 h.bu ?_ ?_ h.d53 h.d85 h.d87 h.dg h.un ?_ ?_
  · intro i hi
    rw [sst_get, sst_get, h.sc i hi]
  · intro q
    rw [sst_ne_j _ _ (by omega), sst_ne_j _ _ (by omega)]; exact h.mo q
  · rw [x6s_0 (sst σ 0 j v) σ (sst_ne_j _ _ (by omega)) (sst_ne_j _ _ (by omega)) (sst_ne_j _ _ (by omega)) (sst_ne_j _ _ (by omega)) (sst_ne_j _ _ (by omega))]; exact h.s2
  · rw [sst_ne_j _ _ (by omega), sst_ne_j _ _ (by omega)]; exact h.ee
  · rw [sst_ne_j _ _ (by omega), sst_ne_j _ _ (by omega)]; exact h.ri
  · intro i hi
    rw [sst_get]; split
    · rename_i q; obtain ⟨_, rfl⟩ := q; exact hw hi
    · exact h.wi i hi
  · rw [sst_ne_j _ _ (by omega)]; exact h.rs
  · rw [sst_ne_j _ _ (by omega), sst_ne_j _ _ (by omega)]; exact h.sf
theorem R_more {b : Bool} {σ τ : Sg} (h : R b σ τ) {v w : Int32} (e : v = w) : R b (sst σ 0 1 v) (sst τ 0 1 w) := by
  subst e
  refine R_mk ?_ (fun _ => rfl) h.da h.fl h.er h.kp h.s2 h.ee h.e8 h.bu h.ri ?_ h.d53 h.d85 h.d87 h.dg h.un h.rs h.sf
  · intro i hi
    have : i ≠ 1 := by intro q; subst q; cases hi
    rw [sst_ne_j _ _ this, sst_ne_j _ _ this]; exact h.sc i hi
  · intro i hi
    have : i ≠ 1 := by intro q; subst q; cases hi
    rw [sst_ne_j _ _ this]; exact h.wi i hi
/-- `more` set on both sides joins them; on one side it parts them -/
theorem R_more0 {b b' : Bool} {σ τ : Sg} (h : R b σ τ) (v : Int32) : R b' (sst σ 0 1 v) (sst τ 0 1 v) := by
  have h2 := R_more h.weak (v := v) rfl
  exact ⟨h2.sc, (fun _ => rfl), h2.2.2⟩
theorem R_morel {b : Bool} {σ τ : Sg} (h : R b σ τ) (v : Int32) : R false (sst σ 0 1 v) τ := by
  refine R_mk ?_ (fun q => Bool.noConfusion q) h.da h.fl h.er h.kp h.s2 h.ee h.e8 h.bu h.ri ?_ h.d53 h.d85 h.d87 h.dg h.un h.rs h.sf
  · intro i hi
    have : i ≠ 1 := by intro q; subst q; cases hi
    rw [sst_ne_j _ _ this]; exact h.sc i hi
  · intro i hi
    have : i ≠ 1 := by intro q; subst q; cases hi
    rw [sst_ne_j _ _ this]; exact h.wi i hi
theorem R_moref {σ τ : Sg} (h : R false σ τ) (v : Int32) : R true (sst σ 0 1 v) (sst τ 0 1 v) := R_more0 h v
/-- the model's own scalars -/
theorem R_own {b : Bool} {σ τ : Sg} (h : R b σ τ) {j : Nat} (v : Int32) (hj : 35 ≤ j) : R b σ (sst τ 0 j v) := by
  refine R_mk ?_ ?_ h.da h.fl h.er h.kp h.s2 h.ee h.e8 h.bu h.ri h.wi h.d53 h.d85 h.d87 h.dg h.un h.rs h.sf
  · intro i hi
    have : i ≠ j := by intro q; subst q; unfold scal at hi; simp at hi; omega
    rw [sst_ne_j _ _ this]; exact h.sc i hi
  · intro q
    rw [sst_ne_j _ _ (by omega)]; exact h.mo q
theorem R_fresh {b : Bool} {σ τ : Sg} (h : R b σ τ) {v w : Int32} (e : v = w) (hv : σ 0 6 = 0 ∨ v = 0) : R b (sst σ 0 7 v) (sst τ 0 7 w) := by
  subst e
  refine R_mk ?_ h.mo h.da h.fl h.er h.kp h.s2 h.ee h.e8 h.bu h.ri ?_ h.d53 h.d85 h.d87 h.dg h.un h.rs ?_
  · intro i hi
    rw [sst_get, sst_get, h.sc i hi]
  · intro i hi
    have : i ≠ 7 := by intro q; subst q; cases hi
    rw [sst_ne_j _ _ this]; exact h.wi i hi
  · exact hv
theorem R_sleep {b : Bool} {σ τ : Sg} (h : R b σ τ) {v w : Int32} (e : v = w) (hv : v = 0 ∨ σ 0 7 = 0) : R b (sst σ 0 6 v) (sst τ 0 6 w) := by
  subst e
  refine R_mk ?_ h.mo h.da h.fl h.er h.kp h.s2 h.ee h.e8 h.bu h.ri ?_ h.d53 h.d85 h.d87 h.dg h.un h.rs ?_
  · intro i hi
    rw [sst_get, sst_get, h.sc i hi]
  · intro i hi
    have : i ≠ 6 := by intro q; subst q; cases hi
    rw [sst_ne_j _ _ this]; exact h.wi i hi
  · exact hv
/-- answers with states -/
def RP (b : Bool) (r q : Int32 × Sg) : Prop := r.1 = q.1 ∧ R b r.2 q.2
theorem RP_i {b : Bool} {x y : Int32} {s t : Sg} (e : x = y) (h : R b s t) : RP b (x, s) (y, t) := ⟨e, h⟩
theorem lt_i {β : Type} (x : Int32) (f : Int32 → β) : lt x f = f x := rfl
theorem ltS_R {b : Bool} {s t : Sg} {f g : Sg → Sg} (h : R b s t) (k : ∀ s t, R b s t → R b (f s) (g t)) : R b (lt s f) (lt t g) := k s t h
theorem ltS_P {b : Bool} {s t : Sg} {f g : Sg → Int32 × Sg} (h : R b s t) (k : ∀ s t, R b s t → RP b (f s) (g t)) : RP b (lt s f) (lt t g) := k s t h
theorem ltP_R {b : Bool} {s t : Int32 × Sg} {f g : Int32 × Sg → Sg} (h : RP b s t) (k : ∀ v s t, R b s t → R b (f (v, s)) (g (v, t))) : R b (lt s f) (lt t g) := by
  obtain ⟨v, s⟩ := s; obtain ⟨w, t⟩ := t; obtain ⟨e, h⟩ := h
  have e : v = w := e
  subst e; exact k v s t h
theorem ltP_P {b : Bool} {s t : Int32 × Sg} {f g : Int32 × Sg → Int32 × Sg} (h : RP b s t) (k : ∀ v s t, R b s t → RP b (f (v, s)) (g (v, t))) : RP b (lt s f) (lt t g) := by
  obtain ⟨v, s⟩ := s; obtain ⟨w, t⟩ := t; obtain ⟨e, h⟩ := h
  have e : v = w := e
  subst e; exact k v s t h
theorem ite_R {b : Bool} {c : Prop} [Decidable c] {s s' t t' : Sg} (h1 : c → R b s t) (h2 : ¬ c → R b s' t') : R b (if c then s else s') (if c then t else t') := by
  by_cases h : c
  · rw [if_pos h, if_pos h]; exact h1 h
  · rw [if_neg h, if_neg h]; exact h2 h
theorem ite_P {b : Bool} {c : Prop} [Decidable c] {s s' t t' : Int32 × Sg} (h1 : c → RP b s t) (h2 : ¬ c → RP b s' t') : RP b (if c then s else s') (if c then t else t') := by
  by_cases h : c
  · rw [if_pos h, if_pos h]; exact h1 h
  · rw [if_neg h, if_neg h]; exact h2 h
theorem okj_0 : okj 0 = true := rfl
theorem okj_1 : okj 1 = true := rfl
theorem okj_26 : okj 26 = true := rfl
theorem okj_27 : okj 27 = true := rfl
theorem okj_28 : okj 28 = true := rfl
theorem okj_29 : okj 29 = true := rfl
theorem okj_30 : okj 30 = true := rfl
theorem okj_31 : okj 31 = true := rfl
theorem okj_36 : okj 36 = true := rfl
theorem okj_37 : okj 37 = true := rfl
theorem okj_53 : okj 53 = true := rfl
theorem okj_64 : okj 64 = true := rfl
theorem okj_65 : okj 65 = true := rfl
theorem okj_68 : okj 68 = true := rfl
theorem okj_69 : okj 69 = true := rfl
theorem okj_70 : okj 70 = true := rfl
theorem okj_71 : okj 71 = true := rfl
theorem okj_84 : okj 84 = true := rfl
theorem okj_85 : okj 85 = true := rfl
theorem okj_87 : okj 87 = true := rfl
theorem okj_93 : okj 93 = true := rfl
theorem okj_94 : okj 94 = true := rfl
theorem okj_95 : okj 95 = true := rfl
theorem okj_96 : okj 96 = true := rfl
theorem okj_110 : okj 110 = true := rfl
theorem okj_193 : okj 193 = true := rfl
theorem okj_194 : okj 194 = true := rfl
theorem okj_196 : okj 196 = true := rfl
theorem okj_197 : okj 197 = true := rfl
theorem rgh_0 : regish 0 = true := rfl
theorem rgh_1 : regish 1 = true := rfl
theorem rgh_26 : regish 26 = true := rfl
theorem rgh_27 : regish 27 = true := rfl
theorem rgh_28 : regish 28 = true := rfl
theorem rgh_29 : regish 29 = true := rfl
theorem rgh_30 : regish 30 = true := rfl
theorem rgh_31 : regish 31 = true := rfl
theorem rgh_93 : regish 93 = true := rfl
theorem rgh_94 : regish 94 = true := rfl
theorem rgh_95 : regish 95 = true := rfl
theorem scal_0 : scal 0 = true := rfl
theorem rgh_of {x : Int32} (h : rg 0 31 x) : regish x.toNatClampNeg = true := by
  have h1 := (rg_nI h).2
  have h2 := h.2
  have h3 : x.toNatClampNeg < 32 := by omega
  unfold regish
  simp [h3]
theorem rgr_a31 (x : Int32) : rg 0 31 (x &&& 31) := rg_w (rg_and_r (rg_w rl_31 (by decide) (by decide) : rg 0 31 31)) (by decide) (by decide)
theorem rgh_a31 (x : Int32) : regish (x &&& 31).toNatClampNeg = true := rgh_of (rg_w (rg_and_r (rg_w rl_31 (by decide) (by decide) : rg 0 31 31)) (by decide) (by decide))
theorem okjr_a31 (x : Int32) : okj (x &&& 31).toNatClampNeg = true := regish_okj (rgh_of (rg_w (rg_and_r (rg_w rl_31 (by decide) (by decide) : rg 0 31 31)) (by decide) (by decide)))
theorem rgr_a16 (x : Int32) : rg 0 31 (16 + (x &&& 15)) := rg_w (rg_add (rg_w rl_16 (by decide) (by decide) : rg 0 16 16) (rg_and_r (rg_w rl_15 (by decide) (by decide) : rg 0 15 15)) (by decide) (by decide)) (by decide) (by decide)
theorem rgh_a16 (x : Int32) : regish (16 + (x &&& 15)).toNatClampNeg = true := rgh_of (rg_w (rg_add (rg_w rl_16 (by decide) (by decide) : rg 0 16 16) (rg_and_r (rg_w rl_15 (by decide) (by decide) : rg 0 15 15)) (by decide) (by decide)) (by decide) (by decide))
theorem okjr_a16 (x : Int32) : okj (16 + (x &&& 15)).toNatClampNeg = true := regish_okj (rgh_of (rg_w (rg_add (rg_w rl_16 (by decide) (by decide) : rg 0 16 16) (rg_and_r (rg_w rl_15 (by decide) (by decide) : rg 0 15 15)) (by decide) (by decide)) (by decide) (by decide)))
theorem rgr_a167 (x : Int32) : rg 0 31 (16 + (x &&& 7)) := rg_w (rg_add (rg_w rl_16 (by decide) (by decide) : rg 0 16 16) (rg_and_r (rg_w rl_7 (by decide) (by decide) : rg 0 7 7)) (by decide) (by decide)) (by decide) (by decide)
theorem rgh_a167 (x : Int32) : regish (16 + (x &&& 7)).toNatClampNeg = true := rgh_of (rg_w (rg_add (rg_w rl_16 (by decide) (by decide) : rg 0 16 16) (rg_and_r (rg_w rl_7 (by decide) (by decide) : rg 0 7 7)) (by decide) (by decide)) (by decide) (by decide))
theorem okjr_a167 (x : Int32) : okj (16 + (x &&& 7)).toNatClampNeg = true := regish_okj (rgh_of (rg_w (rg_add (rg_w rl_16 (by decide) (by decide) : rg 0 16 16) (rg_and_r (rg_w rl_7 (by decide) (by decide) : rg 0 7 7)) (by decide) (by decide)) (by decide) (by decide)))
theorem rgr_m2 (x : Int32) : rg 0 31 (2 * (x &&& 15)) := rg_w (rg_mul (rg_w rl_2 (by decide) (by decide) : rg 0 2 2) (rg_and_r (rg_w rl_15 (by decide) (by decide) : rg 0 15 15)) (by decide)) (by decide) (by decide)
theorem rgh_m2 (x : Int32) : regish (2 * (x &&& 15)).toNatClampNeg = true := rgh_of (rg_w (rg_mul (rg_w rl_2 (by decide) (by decide) : rg 0 2 2) (rg_and_r (rg_w rl_15 (by decide) (by decide) : rg 0 15 15)) (by decide)) (by decide) (by decide))
theorem okjr_m2 (x : Int32) : okj (2 * (x &&& 15)).toNatClampNeg = true := regish_okj (rgh_of (rg_w (rg_mul (rg_w rl_2 (by decide) (by decide) : rg 0 2 2) (rg_and_r (rg_w rl_15 (by decide) (by decide) : rg 0 15 15)) (by decide)) (by decide) (by decide)))
theorem rgr_m21 (x : Int32) : rg 0 31 (2 * (x &&& 15) + 1) := rg_w (rg_add (rg_mul (rg_w rl_2 (by decide) (by decide) : rg 0 2 2) (rg_and_r (rg_w rl_15 (by decide) (by decide) : rg 0 15 15)) (by decide)) (rg_w rl_1 (by decide) (by decide) : rg 0 1 1) (by decide) (by decide)) (by decide) (by decide)
theorem rgh_m21 (x : Int32) : regish (2 * (x &&& 15) + 1).toNatClampNeg = true := rgh_of (rg_w (rg_add (rg_mul (rg_w rl_2 (by decide) (by decide) : rg 0 2 2) (rg_and_r (rg_w rl_15 (by decide) (by decide) : rg 0 15 15)) (by decide)) (rg_w rl_1 (by decide) (by decide) : rg 0 1 1) (by decide) (by decide)) (by decide) (by decide))
theorem okjr_m21 (x : Int32) : okj (2 * (x &&& 15) + 1).toNatClampNeg = true := regish_okj (rgh_of (rg_w (rg_add (rg_mul (rg_w rl_2 (by decide) (by decide) : rg 0 2 2) (rg_and_r (rg_w rl_15 (by decide) (by decide) : rg 0 15 15)) (by decide)) (rg_w rl_1 (by decide) (by decide) : rg 0 1 1) (by decide) (by decide)) (by decide) (by decide)))
theorem rgr_or (x y : Int32) : rg 0 31 ((x &&& 15) ||| (y &&& 16)) := rg_w (rg_or 5 (rg_and_r (rg_w rl_15 (by decide) (by decide) : rg 0 15 15)) (rg_and_r (rg_w rl_16 (by decide) (by decide) : rg 0 16 16)) (by decide) (by decide) (by decide)) (by decide) (by decide)
theorem rgh_or (x y : Int32) : regish ((x &&& 15) ||| (y &&& 16)).toNatClampNeg = true := rgh_of (rg_w (rg_or 5 (rg_and_r (rg_w rl_15 (by decide) (by decide) : rg 0 15 15)) (rg_and_r (rg_w rl_16 (by decide) (by decide) : rg 0 16 16)) (by decide) (by decide) (by decide)) (by decide) (by decide))
theorem okjr_or (x y : Int32) : okj ((x &&& 15) ||| (y &&& 16)).toNatClampNeg = true := regish_okj (rgh_of (rg_w (rg_or 5 (rg_and_r (rg_w rl_15 (by decide) (by decide) : rg 0 15 15)) (rg_and_r (rg_w rl_16 (by decide) (by decide) : rg 0 16 16)) (by decide) (by decide) (by decide)) (by decide) (by decide)))
theorem rgr_a24 (x : Int32) : rg 0 31 (24 + (x &&& 6)) := rg_w (rg_add (rg_w rl_24 (by decide) (by decide) : rg 0 24 24) (rg_and_r (rg_w rl_6 (by decide) (by decide) : rg 0 6 6)) (by decide) (by decide)) (by decide) (by decide)
theorem rgh_a24 (x : Int32) : regish (24 + (x &&& 6)).toNatClampNeg = true := rgh_of (rg_w (rg_add (rg_w rl_24 (by decide) (by decide) : rg 0 24 24) (rg_and_r (rg_w rl_6 (by decide) (by decide) : rg 0 6 6)) (by decide) (by decide)) (by decide) (by decide))
theorem okjr_a24 (x : Int32) : okj (24 + (x &&& 6)).toNatClampNeg = true := regish_okj (rgh_of (rg_w (rg_add (rg_w rl_24 (by decide) (by decide) : rg 0 24 24) (rg_and_r (rg_w rl_6 (by decide) (by decide) : rg 0 6 6)) (by decide) (by decide)) (by decide) (by decide)))
theorem rgr_a241 (x : Int32) : rg 0 31 (24 + (x &&& 6) + 1) := rg_w (rg_add (rg_add (rg_w rl_24 (by decide) (by decide) : rg 0 24 24) (rg_and_r (rg_w rl_6 (by decide) (by decide) : rg 0 6 6)) (by decide) (by decide)) (rg_w rl_1 (by decide) (by decide) : rg 0 1 1) (by decide) (by decide)) (by decide) (by decide)
theorem rgh_a241 (x : Int32) : regish (24 + (x &&& 6) + 1).toNatClampNeg = true := rgh_of (rg_w (rg_add (rg_add (rg_w rl_24 (by decide) (by decide) : rg 0 24 24) (rg_and_r (rg_w rl_6 (by decide) (by decide) : rg 0 6 6)) (by decide) (by decide)) (rg_w rl_1 (by decide) (by decide) : rg 0 1 1) (by decide) (by decide)) (by decide) (by decide))
theorem okjr_a241 (x : Int32) : okj (24 + (x &&& 6) + 1).toNatClampNeg = true := regish_okj (rgh_of (rg_w (rg_add (rg_add (rg_w rl_24 (by decide) (by decide) : rg 0 24 24) (rg_and_r (rg_w rl_6 (by decide) (by decide) : rg 0 6 6)) (by decide) (by decide)) (rg_w rl_1 (by decide) (by decide) : rg 0 1 1) (by decide) (by decide)) (by decide) (by decide)))
theorem rg30_a {x : Int32} (h : rg 0 30 x) : regish x.toNatClampNeg = true := rgh_of (rg_w h (by decide) (by decide))
theorem rg30_b {x : Int32} (h : rg 0 30 x) : regish (x + 1).toNatClampNeg = true := rgh_of (rg_w (rg_add h (rg_w rl_1 (by decide) (by decide) : rg 0 1 1) (by decide) (by decide)) (by decide) (by decide))
