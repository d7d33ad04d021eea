/-! PLAIN LAW 21: the flash's store instruction -/
set_option maxRecDepth 100000
theorem R_buf {b : Bool} {σ τ : Sg} (h : R b σ τ) (i : Nat) {v : Int32} (hv : ¬ v < 0) : R b (sst σ 5 i v) (sst (sst τ 5 i v) 7 i 1) := by
  refine R_mk h.sc h.mo h.da h.fl h.er h.kp h.s2 h.ee h.e8 ?_ h.ri h.wi h.d53 h.d85 h.d87 h.dg h.un h.rs h.sf
  intro j hj
  by_cases q : j = i
  · right
    rw [q, sst_eq, sst_eq, sst_ne_k _ _ (by decide), sst_eq]
    exact ⟨hv, rfl, rfl⟩
  · have e1 : sst σ 5 i v 5 j = σ 5 j := sst_ne_j _ _ q
    have e2 : sst (sst τ 5 i v) 7 i 1 7 j = τ 7 j := (sst_ne_j _ _ q).trans (sst_ne_k _ _ (by decide))
    have e3 : sst (sst τ 5 i v) 7 i 1 5 j = τ 5 j := (sst_ne_k _ _ (by decide)).trans (sst_ne_j _ _ q)
    rw [e1, e2, e3]; exact h.bu j hj
theorem R_lay {b : Bool} {σ τ : Sg} (h : R b σ τ) {i : Nat} (hi : i < 32) (hn : ¬ σ 5 i < 0) : sst τ 7 i 1 = τ := by
  have : τ 7 i = 1 := by
    rcases h.bu i hi with q | q
    · exact absurd q.1 hn
    · exact q.2.1
  rw [← this]; exact sst_id τ 7 i
theorem lock_eq {l r : Int32} (hl : rg 0 15 l) : l &&& ((r >>> (2 : Int32)) ||| (-16)) = l &&& (r >>> (2 : Int32)) := by
  have hm : l &&& 15 = l := i_eq.mpr (by rw [and15]; have := hl.1; have := hl.2; omega)
  rw [← hm, Int32.and_assoc, Int32.and_assoc]
  have h2 : 15 &&& ((r >>> (2 : Int32)) ||| (-16)) = 15 &&& ((r >>> (2 : Int32)) ||| 0) := low_or _ _ _ _ (by decide +kernel)
  have h3 : (r >>> (2 : Int32)) ||| 0 = r >>> (2 : Int32) := by apply i32_ext; intro i hi; rw [gl_or, gl_zero, Bool.or_false]
  rw [h2, h3]
theorem and_32 {w p : Int32} (h : w &&& 32 = 0) : (w &&& p) &&& 32 = 0 := by
  rw [bit_mask _ 5 (by decide) (by decide +kernel)] at h ⊢
  rw [gl_and, h]; rfl
theorem R_stores {b : Bool} {σ τ : Sg} (h : R b σ τ) (ok : XOK σ) {k : Int32} (hk : k = if τ 0 36 < 1536 then 0 else 1) : R b (x10_stores σ (x2_pair σ 30) k) (m_storesFlash τ) := by
  have h27 : σ 0 27 = τ 0 27 := h.sc 27 rfl
  have h26 : σ 0 26 = τ 0 26 := h.sc 26 rfl
  have hc : ((k = 0) ∨ ((0 < (σ 0 27)) ∨ ((σ 0 26) = 0))) ↔ (((τ 0 36) < 1536) ∨ ((0 < (τ 0 27)) ∨ ((τ 0 26) = 0))) := by
    rw [h27, h26, hk]
    by_cases q : τ 0 36 < 1536
    · rw [if_pos q]; exact ⟨fun _ => Or.inl q, fun _ => Or.inl rfl⟩
    · rw [if_neg q]
      constructor
      · rintro (z | z)
        · exact absurd z (by decide)
        · exact Or.inr z
      · rintro (z | z)
        · exact absurd z q
        · exact Or.inr z
  unfold x10_stores m_storesFlash
  refine ite_R2 hc (fun _ => h) (fun _ => ?_)
  have okp := xst_f0_26 ok (v := 0)
  have hp : x2_pair σ 30 = x2_pair (sst σ 0 26 0) 30 := rfl
  rw [hp]
  have h0 : R b (sst σ 0 26 0) (sst τ 0 26 0) := R_scal h rfl rfl (fun _ => by decide)
  refine ltl_R (ltr_R ?_)
  revert okp h0
  generalize sst σ 0 26 0 = s
  generalize sst τ 0 26 0 = t
  intro ok h
  have hpp : x2_pair s 30 = m_pointer t 30 := by rw [mptr]; exact R_pair h 30 rfl rfl
  rw [hpp]
  refine ltr_R ?_
  generalize m_pointer t 30 = a
  rw [← h.da 87 rfl]
  refine ltl_R (ltr_R (ltr_R ?_))
  generalize ((s 1 87 >>> (1 : Int32)) &&& 15) = v
  refine ite_R (fun c => ?_) (fun c => ?_)
  · refine ltl_R (ltl_R (ltr_R ?_))
    exact R_page h ok _ _
  · have c0 : ∀ w : Int32, v = w → (¬ v = 0 ∨ w = 0) := fun w q => by
      by_cases z : v = 0
      · right; rw [← q, z]
      · exact Or.inl z
    by_cases v0 : v = 0
    · rw [if_pos v0]
      have n8 : ¬ v = 8 := by rw [v0]; decide
      have n4 : ¬ v = 4 := by rw [v0]; decide
      simp only [if_neg n8, if_neg n4]
      have hi : ((a >>> (1 : Int32)) &&& 31).toNatClampNeg < 32 := by
        have r := rg_and_r (x := a >>> (1 : Int32)) (rg_w rl_31 (by decide) (by decide) : rg 0 31 31)
        have := (rg_nI r).2; have := r.2; omega
      rw [lt_as]
      refine ltr_R ?_
      generalize ((a >>> (1 : Int32)) &&& 31).toNatClampNeg = i at hi ⊢
      have hpv : (((s 1 1) <<< (8 : Int32)) ||| (s 1 0)) = m_pointer t 0 := by
        rw [mptr]
        have := R_pair h 0 rfl rfl
        rw [← this]; rfl
      have hnn : ¬ m_pointer t 0 < 0 := by
        rw [← hpv]
        exact nneg (rg_or 16 (rg_shl 8 (by decide +kernel) (xr_1 ok _) (by decide)) (xr_1 ok _) (by decide) (by decide) (by decide))
      rcases h.bu i hi with q | q
      · rw [if_pos ⟨v0, q.1⟩, if_pos q.2, hpv]
        have h2 := R_buf h i hnn
        have ok2 : rg 0 255 (sst s 5 i (m_pointer t 0) 1 87) := xr_1 ok 87
        refine ltl_R (ltl_R (ltl_R (ltr_R (ltr_R ?_))))
        exact ltl_R (ltr_R (R_done' h2 ok2))
      · rw [if_neg (fun z => q.1 z.2), if_neg (by rw [q.2.1]; decide)]
        refine ltl_R (ltl_R (ltl_R (ltr_R (ltr_R ?_))))
        rw [lt_g t, lt_g (sst t 7 i 1), R_lay h hi q.1]
        exact ltl_R (ltr_R (R_done' h (xr_1 ok 87)))
    · rw [if_neg (fun z => v0 z.1), if_neg v0]
      refine ltl_R ?_
      by_cases v8 : v = 8
      · have n4 : ¬ v = 4 := by rw [v8]; decide
        simp only [if_pos v8, if_neg n4]
        have e : (s 1 87) &&& (-65) = (s 1 87) &&& 191 := byte_and (xr_1 ok 87) (by decide)
        have h2 : R b (sst s 1 87 ((s 1 87) &&& 191)) (sst t 1 87 ((t 1 87) &&& 191)) := by
          rw [← h.da 87 rfl]
          exact R_da h rfl (fun q => absurd q (by decide)) (fun q => absurd q (by decide)) (fun _ => and_32 h.d87) (fun q => absurd q (by decide)) (fun q => absurd q (by decide)) (fun _ _ q => by cases q)
        have r2 : rg 0 255 ((sst s 1 87 ((s 1 87) &&& 191)) 1 87) := by rw [sst_eq]; exact rg_and_l (xr_1 ok 87)
        rw [e]
        revert h2 r2
        rw [← h.da 87 rfl]
        generalize sst s 1 87 ((s 1 87) &&& 191) = s2
        generalize sst t 1 87 ((s 1 87) &&& 191) = t2
        intro h2 r2
        have r3 : rg 0 255 ((x10_empty s2) 1 87) := by rw [empty_87]; exact r2
        refine ltl_R (ltr_R ?_)
        rw [lt_g s2, lt_g t2, lt_g (x10_empty s2), lt_g (m_clearBuffer t2)]
        exact ltl_R (ltl_R (ltr_R (R_done' (R_empty h2) r3)))
      · rw [if_neg v8, if_neg v8]
        refine ltl_R ?_
        by_cases v4 : v = 4
        · rw [if_pos v4, if_pos v4]
          have h2 : R b (sst s 0 28 ((s 0 28) &&& (((s 1 0) >>> (2 : Int32)) ||| (-16)))) (sst t 0 28 ((t 0 28) &&& ((t 1 0) >>> (2 : Int32)))) := by
            rw [lock_eq (xr0_28 ok), h.sc 28 rfl, h.da 0 rfl]
            exact R_scal h rfl rfl (fun q => by cases q)
          refine ltl_R (ltr_R ?_)
          refine ltl_R (ltr_R ?_)
          exact R_done' h2 (xr_1 ok 87)
        · rw [if_neg v4, if_neg v4]
          refine ltl_R (ltr_R ?_)
          exact ltl_R (ltr_R (R_done' h (xr_1 ok 87)))
