/-! PLAIN LAW 28: the receiver, the watchdog -/
set_option maxRecDepth 100000
theorem tn_int {x : Int32} {n : Nat} (h : x.toInt = (n : Int)) : x.toNatClampNeg = n := by
  show x.toInt.toNat = n
  omega
theorem tn_nI1 {i : Nat} (h : i < 2000000000) : (nI i + 1).toNatClampNeg = i + 1 := by
  refine tn_int ?_
  have e := nI_toInt (n := i) (by omega)
  rw [toInt_add' (by rw [e, ti1]; omega) (by rw [e, ti1]; omega), e, ti1]
  omega
def shF (i : Nat) (a : Sg) : Sg := lt (sst a 6 ((nI i)).toNatClampNeg (a 6 (((nI i) + 1)).toNatClampNeg)) fun s187 => s187
theorem iter_shift : ∀ (n i : Nat) (t : Sg), i + n < 2000000000 → iterN n i shF t = fun a j => if a = 6 ∧ i ≤ j ∧ j < i + n then t 6 (j + 1) else t a j := by
  intro n
  induction n with
  | zero => intro i t _; funext a j; show t a j = _; rw [if_neg (by omega)]
  | succ n ih =>
    intro i t hi
    have e : shF i t = sst t 6 i (t 6 (i + 1)) := by
      unfold shF
      rw [tn_nI (by omega), tn_nI1 (by omega)]
      rfl
    show iterN n (i + 1) shF (shF i t) = _
    rw [e, ih (i + 1) _ (by omega)]
    funext a j
    by_cases h1 : a = 6
    · subst h1
      by_cases h2 : i + 1 ≤ j ∧ j < i + 1 + n
      · rw [if_pos ⟨rfl, h2⟩, if_pos ⟨rfl, by omega, by omega⟩, sst_ne_j t _ (by omega)]
      · rw [if_neg (fun z => h2 z.2), sst_get]
        by_cases h3 : j = i
        · subst h3
          rw [if_pos ⟨rfl, rfl⟩, if_pos ⟨rfl, by omega, by omega⟩]
        · rw [if_neg (fun z => h3 z.2), if_neg (by omega)]
    · rw [if_neg (fun z => h1 z.1), if_neg (fun z => h1 z.1), sst_ne_k t _ h1]
theorem R_ring {b : Bool} {σ τ : Sg} (h : R b σ τ) (ok : XOK σ) (hn : ¬ σ 0 19 = 0) : R b (sst (sst (sst σ 0 14 (σ 6 (σ 0 34).toNatClampNeg)) 0 34 (((σ 0 34) + 1) - ((σ 0 34) + 1) / 300 * 300)) 0 19 (σ 0 19 - 1)) (iterN (σ 0 19 - 1).toNatClampNeg 0 shF (sst (sst τ 0 14 (τ 6 0)) 0 19 (σ 0 19 - 1))) := by
  have r34 := xr0_34 ok
  have r19 := xr0_19 ok
  have i19 : ¬ (σ 0 19).toInt = 0 := fun z => hn (i_eq.mpr (z.trans ti0.symm))
  obtain ⟨e34, f34⟩ := rg_nI r34
  obtain ⟨e19, f19⟩ := rg_nI r19
  have b34 := r34.2
  have b19 := r19.2
  have a19 := r19.1
  have d19 : (σ 0 19 - 1).toInt = (σ 0 19).toInt - 1 := by
    rw [toInt_sub' (by rw [ti1]; omega) (by rw [ti1]; omega), ti1]
  have N19 : (σ 0 19 - 1).toNatClampNeg = (σ 0 19).toNatClampNeg - 1 := tn_int (by omega)
  have p34 : (σ 0 34 + 1).toInt = (σ 0 34).toInt + 1 := by
    have := r34.1
    rw [toInt_add' (by rw [ti1]; omega) (by rw [ti1]; omega), ti1]
  have q34 : σ 0 34 + 1 = nI ((σ 0 34).toNatClampNeg + 1) := i_eq.mpr (by rw [p34, nI_toInt (by omega)]; omega)
  have m34 : ((σ 0 34) + 1) - ((σ 0 34) + 1) / 300 * 300 = nI (((σ 0 34).toNatClampNeg + 1) % 300) := by
    have q := pk_rem (a := (σ 0 34).toNatClampNeg + 1) (d := 300) (by omega) (by decide) (by decide)
    rw [← q34] at q
    exact q
  have t34 : (((σ 0 34) + 1) - ((σ 0 34) + 1) / 300 * 300).toNatClampNeg = ((σ 0 34).toNatClampNeg + 1) % 300 := by
    rw [m34]
    exact tn_nI (by have := Nat.mod_lt ((σ 0 34).toNatClampNeg + 1) (show 300 > 0 by decide); omega)
  have h34 : (σ 0 34).toNatClampNeg < 300 := by omega
  have hfirst : σ 6 (σ 0 34).toNatClampNeg = τ 6 0 := by
    have := h.ri 0 (by omega)
    rw [Nat.add_zero, Nat.mod_eq_of_lt h34] at this
    exact this
  rw [iter_shift _ _ _ (by omega), hfirst]
  generalize hv : ((σ 0 34) + 1) - ((σ 0 34) + 1) / 300 * 300 = v34 at t34 ⊢
  generalize hN : (σ 0 19 - 1).toNatClampNeg = N at N19 ⊢
  generalize hw : σ 0 19 - 1 = w19 at hN d19 ⊢
  generalize τ 6 0 = c14
  have x0 : ∀ j, j ≠ 14 → j ≠ 34 → j ≠ 19 → (sst (sst (sst σ 0 14 c14) 0 34 v34) 0 19 w19) 0 j = σ 0 j := by
    intro j a1 a2 a3
    rw [sst_ne_j _ _ a3, sst_ne_j _ _ a2, sst_ne_j _ _ a1]
  have xr : ∀ a, a ≠ 0 → (sst (sst (sst σ 0 14 c14) 0 34 v34) 0 19 w19) a = σ a := by
    intro a ha
    rw [sst_row _ _ ha, sst_row _ _ ha, sst_row _ _ ha]
  have y0 : ∀ j, j ≠ 14 → j ≠ 19 → (sst (sst τ 0 14 c14) 0 19 w19) 0 j = τ 0 j := by
    intro j a1 a3
    rw [sst_ne_j _ _ a3, sst_ne_j _ _ a1]
  have yr : ∀ a, a ≠ 0 → (sst (sst τ 0 14 c14) 0 19 w19) a = τ a := by
    intro a ha
    rw [sst_row _ _ ha, sst_row _ _ ha]
  have zr : ∀ a, a ≠ 6 → (fun j => if a = 6 ∧ 0 ≤ j ∧ j < 0 + N then (sst (sst τ 0 14 c14) 0 19 w19) 6 (j + 1) else (sst (sst τ 0 14 c14) 0 19 w19) a j) = (sst (sst τ 0 14 c14) 0 19 w19) a := by
    intro a ha; funext j; rw [if_neg (fun z => ha z.1)]
  have X14 : (sst (sst (sst σ 0 14 c14) 0 34 v34) 0 19 w19) 0 14 = c14 := by rw [sst_ne_j _ _ (by decide), sst_ne_j _ _ (by decide), sst_eq]
  have X19 : (sst (sst (sst σ 0 14 c14) 0 34 v34) 0 19 w19) 0 19 = w19 := sst_eq _ _ _ _
  have X34 : (sst (sst (sst σ 0 14 c14) 0 34 v34) 0 19 w19) 0 34 = v34 := by rw [sst_ne_j _ _ (by decide), sst_eq]
  have Y14 : (sst (sst τ 0 14 c14) 0 19 w19) 0 14 = c14 := by rw [sst_ne_j _ _ (by decide), sst_eq]
  have Y19 : (sst (sst τ 0 14 c14) 0 19 w19) 0 19 = w19 := sst_eq _ _ _ _
  have Y6 : (sst (sst τ 0 14 c14) 0 19 w19) 6 = τ 6 := yr 6 (by decide)
  have x1 := xr 1 (by decide); have x2 := xr 2 (by decide); have x3 := xr 3 (by decide); have x4 := xr 4 (by decide); have x5 := xr 5 (by decide); have x6 := xr 6 (by decide)
  have y1 := yr 1 (by decide); have y2 := yr 2 (by decide); have y3 := yr 3 (by decide); have y4 := yr 4 (by decide); have y5 := yr 5 (by decide); have y7 := yr 7 (by decide)
  generalize sst (sst (sst σ 0 14 c14) 0 34 v34) 0 19 w19 = S at *
  generalize sst (sst τ 0 14 c14) 0 19 w19 = T at *
  have z0 := zr 0 (by decide); have z1 := zr 1 (by decide); have z2 := zr 2 (by decide); have z3 := zr 3 (by decide); have z4 := zr 4 (by decide); have z5 := zr 5 (by decide); have z7 := zr 7 (by decide)
  have z6 : ∀ k, k < N → (fun j => if (6 : Nat) = 6 ∧ 0 ≤ j ∧ j < 0 + N then T 6 (j + 1) else T 6 j) k = τ 6 (k + 1) := by
    intro k hk
    show (if (6 : Nat) = 6 ∧ 0 ≤ k ∧ k < 0 + N then T 6 (k + 1) else T 6 k) = _
    rw [if_pos ⟨rfl, by omega, by omega⟩, Y6]
  generalize hU : (fun a j => if a = 6 ∧ 0 ≤ j ∧ j < 0 + N then T 6 (j + 1) else T a j) = U
  have u : ∀ a, U a = fun j => if a = 6 ∧ 0 ≤ j ∧ j < 0 + N then T 6 (j + 1) else T a j := fun a => by rw [← hU]
  rw [← u] at z0 z1 z2 z3 z4 z5 z7
  have z6 : ∀ k, k < N → U 6 k = τ 6 (k + 1) := fun k hk => by rw [u 6]; exact z6 k hk
  have s0 : ∀ j, scal j = true → S 0 j = U 0 j := by
    intro j hj
    rw [z0]
    by_cases q1 : j = 14
    · rw [q1, X14, Y14]
    by_cases q2 : j = 19
    · rw [q2, X19, Y19]
    have q3 : j ≠ 34 := by intro q; subst q; cases hj
    rw [x0 j q1 q3 q2, y0 j q1 q2]; exact h.sc j hj
  refine R_mk s0 ?_ ?_ ?_ ?_ ?_ ?_ ?_ ?_ ?_ ?_ ?_ ?_ ?_ ?_ ?_ ?_ ?_ ?_
  · intro q; rw [z0, x0 1 (by decide) (by decide) (by decide), y0 1 (by decide) (by decide)]; exact h.mo q
  · intro j hj; rw [x1, z1, y1]; exact h.da j hj
  · rw [x2, z2, y2]; exact h.fl
  · rw [x3, z3, y3]; exact h.er
  · rw [x4, z4, y4]; exact h.kp
  · rw [z1, y1, h.s2]
    exact (x6s_0 S σ (x0 18 (by decide) (by decide) (by decide)) (x0 32 (by decide) (by decide) (by decide)) (x0 11 (by decide) (by decide) (by decide)) (x0 31 (by decide) (by decide) (by decide)) (x0 33 (by decide) (by decide) (by decide))).symm
  · rw [z1, y1, x1, x0 21 (by decide) (by decide) (by decide), x0 22 (by decide) (by decide) (by decide)]; exact h.ee
  · rw [x1]; exact h.e8
  · rw [x5, z5, z7, y5, y7]; exact h.bu
  · intro k hk
    rw [X19, hN, N19] at hk
    rw [X34, t34, x6, z6 k (by omega)]
    have := h.ri (k + 1) (by omega)
    rw [← this]
    congr 1
    omega
  · intro j hj
    have q1 : j ≠ 14 := by intro q; subst q; cases hj
    have q2 : j ≠ 34 := by intro q; subst q; cases hj
    have q3 : j ≠ 19 := by intro q; subst q; cases hj
    rw [x0 j q1 q2 q3]; exact h.wi j hj
  · rw [x1]; exact h.d53
  · rw [x1]; exact h.d85
  · rw [x1]; exact h.d87
  · rw [x1]; exact h.dg
  · intro j; rw [x1]; exact h.un j
  · rw [x0 30 (by decide) (by decide) (by decide)]; exact h.rs
  · rw [x0 6 (by decide) (by decide) (by decide), x0 7 (by decide) (by decide) (by decide)]; exact h.sf
theorem R_18 {b : Bool} {σ τ : Sg} (h : R b σ τ) (v : Int32) : R b (sst σ 0 18 v) (m_showReceived (sst τ 0 18 v)) := by
  rw [show_eq]
  refine R_line h ?_ ?_ ?_ ?_ ?_ ?_ ?_ ?_ ?_ ?_
  · intro i a1 a2 a3 a4 a5 a6 a7 a8
    exact ⟨sst_ne_j _ _ a5, (sst_ne_k _ _ (by decide)).trans (sst_ne_j _ _ a5)⟩
  · exact h.sc 11 rfl
  · exact h.sc 14 rfl
  · exact h.sc 16 rfl
  · exact h.sc 17 rfl
  · rfl
  · intro i; exact sst_ne_k _ _ (by decide)
  · intro i hi; rw [sst_ne_j _ _ hi, sst_ne_k _ _ (by decide)]
  · intro k hk
    exact ⟨sst_row _ _ (by omega), (sst_row _ _ (by omega)).trans (sst_row _ _ (by omega))⟩
  · have e : x6_state (sst σ 0 18 v) = stv (if 0 < v then 128 else 0) (if (σ 0 32) = 0 then 0 else 64) (if (σ 0 11) < 0 then 32 else 0) (if (σ 0 31) = 0 then 0 else 8) (if (σ 0 33) = 0 then 0 else 2) := rfl
    rw [sst_eq, sst_eq, e, sst_ne_k τ _ (by decide), h.s2, st_v, st_a (st_k σ) o2]
theorem R_rcv {b : Bool} {σ τ : Sg} (h : R b σ τ) (ok : XOK σ) : R b (x6_receive σ) (mlb τ) := by
  unfold x6_receive mlb
  rw [← h.sc 15 rfl, ← h.sc 19 rfl]
  have r19 := xr0_19 ok
  have c19 := pos_iff (x := σ 0 19) r19.1
  refine ite_R (fun _ => ?_) (fun _ => ?_)
  · refine ltr_R ?_
    by_cases q : σ 0 19 = 0
    · rw [if_pos q, if_neg (fun z => c19.mp z q)]; exact h
    · rw [if_neg q, if_pos (c19.mpr q)]
      have hr := R_ring h ok q
      have e1 : (sst σ 0 14 (σ 6 ((σ 0 34)).toNatClampNeg)) 0 34 = σ 0 34 := sst_ne_j _ _ (by decide)
      have e2 : (sst (sst σ 0 14 (σ 6 ((σ 0 34)).toNatClampNeg)) 0 34 (((σ 0 34) + 1) - ((σ 0 34) + 1) / 300 * 300)) 0 19 = σ 0 19 := (sst_ne_j _ _ (by decide)).trans (sst_ne_j _ _ (by decide))
      have e3 : (sst τ 0 14 (τ 6 0)) 0 19 = σ 0 19 := (sst_ne_j _ _ (by decide)).trans (h.sc 19 rfl).symm
      have e4 : (sst (sst τ 0 14 (τ 6 0)) 0 19 (σ 0 19 - 1)) 0 19 = σ 0 19 - 1 := sst_eq _ _ _ _
      rw [lt_g (sst σ 0 14 (σ 6 ((σ 0 34)).toNatClampNeg)), e1]
      rw [lt_g (sst (sst σ 0 14 (σ 6 ((σ 0 34)).toNatClampNeg)) 0 34 _), e2]
      rw [lt_g (sst τ 0 14 (τ 6 0)), e3]
      rw [lt_g (sst (sst τ 0 14 (τ 6 0)) 0 19 (σ 0 19 - 1)), e4]
      have of : rg 80 655360 (x6_frame (sst (sst (sst σ 0 14 (σ 6 (σ 0 34).toNatClampNeg)) 0 34 (((σ 0 34) + 1) - ((σ 0 34) + 1) / 300 * 300)) 0 19 (σ 0 19 - 1))) := by
        have e : x6_frame (sst (sst (sst σ 0 14 (σ 6 (σ 0 34).toNatClampNeg)) 0 34 (((σ 0 34) + 1) - ((σ 0 34) + 1) / 300 * 300)) 0 19 (σ 0 19 - 1)) = x6_frame σ := rfl
        rw [e]; exact ok_x6_frame σ ok
      revert hr of
      generalize sst (sst (sst σ 0 14 (σ 6 (σ 0 34).toNatClampNeg)) 0 34 (((σ 0 34) + 1) - ((σ 0 34) + 1) / 300 * 300)) 0 19 (σ 0 19 - 1) = s
      intro hr of
      refine ltl_R (ltl_R ?_)
      refine ltr_R ?_
      show R b _ (lt (sst (iterN (σ 0 19 - 1).toNatClampNeg 0 shF (sst (sst τ 0 14 (τ 6 0)) 0 19 (σ 0 19 - 1))) 0 15 (m_frame (iterN (σ 0 19 - 1).toNatClampNeg 0 shF (sst (sst τ 0 14 (τ 6 0)) 0 19 (σ 0 19 - 1))))) fun s199 => s199)
      revert hr
      generalize iterN (σ 0 19 - 1).toNatClampNeg 0 shF (sst (sst τ 0 14 (τ 6 0)) 0 19 (σ 0 19 - 1)) = t
      intro hr
      refine ltr_R ?_
      exact R_scal hr (R_frame hr) rfl (fun q => by cases q)
  · have h2 : R b (sst σ 0 15 ((σ 0 15) - 1)) (sst τ 0 15 ((σ 0 15) - 1)) := R_scal h rfl rfl (fun q => by cases q)
    refine ltS_R h2 (fun s t h2 => ?_)
    rw [← h2.sc 15 rfl, ← h2.da 193 rfl, ← h2.sc 18 rfl, ← h2.sc 14 rfl]
    refine ite_R (fun _ => h2) (fun _ => ?_)
    refine ltl_R ?_
    refine ite_R (fun _ => ltl_R (ltr_R (R_31s h2))) (fun _ => ?_)
    have h3 : R b (if (s 0 18) = 0 then lt (sst s 0 16 (s 0 14)) fun s124 => s124 else lt (sst s 0 17 (s 0 14)) fun s135 => s135) (if (s 0 18) = 0 then lt (sst t 0 16 (s 0 14)) fun s269 => s269 else lt (sst t 0 17 (s 0 14)) fun s280 => s280) := ite_R (fun _ => ltl_R (ltr_R (R_scal h2 rfl rfl (fun q => by cases q)))) (fun _ => ltl_R (ltr_R (R_scal h2 rfl rfl (fun q => by cases q))))
    refine ltS_R h3 (fun s t h => ?_)
    rw [← h.sc 18 rfl]
    exact ltl_R (ltr_R (ltr_R (R_18 h _)))
theorem R_linec {b : Bool} {σ τ : Sg} (h : R b σ τ) (ok : XOK σ) (oka : XOK (x6a σ)) : R b (x6_cycle σ) (m_line τ) := by
  rw [x6c_eq, ml_ab]
  exact R_rcv (R_x6a h ok) oka
