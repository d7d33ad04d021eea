/-! PLAIN LAW 34: runs and passes -/
set_option maxRecDepth 100000
theorem R_35 {b : Bool} {σ τ : Sg} (h : R b σ τ) (v : Int32) : R b σ (sst τ 0 35 v) := R_own h v (by decide)
theorem R_runL (x1 : Int32) : ∀ (n : Nat) (σ τ : Sg) (v2 v3 : Int32) (B m : Int), R false σ τ → XOK σ → XOK τ → HBm B 8000 σ → HBm B m τ → m + 8 * n ≤ 1500000000 → 8000 ≤ m → B + 8100 * n ≤ 4294959189 → ¬ σ 0 8 = 0 → RP false (x1_runL n σ x1 v2 v3) (m_runL n τ x1 v2 v3) := by
  intro n
  induction n with
  | zero => intro σ τ v2 v3 B m h ok okt hk hkt h1 h2 h3 h8; exact RP_i rfl h
  | succ n ih =>
    intro σ τ v2 v3 B m h ok okt hk hkt h1 h2 h3 h8
    unfold x1_runL m_runL
    by_cases q : v3 < x1
    · rw [if_neg (by rintro (z | z); exact z q; exact h8 z), if_pos q]
      have hs := R_step h ok okt h8
      have hX := okh_x2_step σ ok hk (by decide) (by omega)
      have hM := okh_m_stepped τ okt hkt (by omega) h2 (by omega)
      have f8 : (x2_step σ).2 0 8 = σ 0 8 := F8_x2_step (show Fr 8 (σ 0 8) σ from rfl)
      rw [lt_g (x2_step σ), lt_g (m_stepped τ), ← hs.1]
      have kX := hX.2
      have kM := hM.2
      have r1 := hX.1.2
      have r2 := hM.1.2
      refine ih _ _ _ _ (B + 8100) (m + 8) hs.2 hX.1.1 hM.1.1 (HBm.w kX (by have := r1.2; omega) (Int.le_refl _)) (HBm.w kM (by have := r2.2; omega) (Int.le_refl _)) (by omega) (by omega) (by omega) (by rw [f8]; exact h8)
    · rw [if_pos (Or.inl q), if_neg q]
      exact RP_i rfl h
theorem R_passPL (x1 : Int32) (hx1 : rg 1 200000 x1) : ∀ (n : Nat) (σ τ : Sg) (v2 : Int32) (B m : Int), R false σ τ → XOK σ → XOK τ → HBm B 8000 σ → HBm B m τ → m + 8 * n ≤ 1500000000 → 8000 ≤ m → B + (x1.toInt - v2.toInt) ≤ 4294950290 → rg 0 208100 v2 → ¬ σ 0 8 = 0 → RP false (x1_passL n σ x1 v2) (m_passL n τ x1 v2) := by
  intro n
  induction n with
  | zero => intro σ τ v2 B m h ok okt hk hkt h1 h2 h3 h4 h8; exact RP_i rfl h
  | succ n ih =>
    intro σ τ v2 B m h ok okt hk hkt h1 h2 h3 h4 h8
    unfold x1_passL m_passL
    by_cases q : v2 < x1
    · rw [if_neg (by rintro (z | z); exact z q; exact h8 z), if_pos q]
      have q2 := i_lt.mp q
      have hs := R_step h ok okt h8
      have hX := okh_x2_step σ ok hk (by decide) (by omega)
      have hM := okh_m_stepped τ okt hkt (by omega) h2 (by omega)
      have f8 : (x2_step σ).2 0 8 = σ 0 8 := F8_x2_step (show Fr 8 (σ 0 8) σ from rfl)
      have r1 := hX.1.2
      have a1 := r1.1
      have a2 := r1.2
      have b1 := h4.1
      have b2 := hx1.2
      have e : (v2 + (x2_step σ).1).toInt = v2.toInt + (x2_step σ).1.toInt := toInt_add' (by omega) (by omega)
      have kX := hX.2
      have kM := hM.2
      rw [← hs.1] at kM
      rw [lt_g (x2_step σ), lt_g (m_stepped τ), ← hs.1]
      refine ih _ _ _ (B + (x2_step σ).1.toInt) (m + 8) hs.2 hX.1.1 hM.1.1 kX kM (by omega) (by omega) ?_ ⟨?_, ?_⟩ (by rw [f8]; exact h8)
      · show B + (x2_step σ).1.toInt + (x1.toInt - (v2 + (x2_step σ).1).toInt) ≤ _
        rw [e]; omega
      · show 0 ≤ (v2 + (x2_step σ).1).toInt
        rw [e]; omega
      · show (v2 + (x2_step σ).1).toInt ≤ _
        rw [e]; omega
    · rw [if_pos (Or.inl q), if_neg q]
      exact RP_i rfl h
/-- what holds of board and model between two calls; B, m: how far the counters may have gone -/
def IV (B m : Int) (σ τ : Sg) : Prop := R false σ τ ∧ XOK σ ∧ XOK τ ∧ HBm B 8000 σ ∧ HBm B m τ ∧ 8000 ≤ m
theorem HBm_35 {B m : Int} {τ : Sg} (h : HBm B m τ) (v : Int32) : HBm B m (sst τ 0 35 v) := HBm.same h rfl rfl rfl
theorem IV_35 {B m : Int} {σ τ : Sg} (h : IV B m σ τ) {v : Int32} (hv : rg 0 1 v) : IV B m σ (sst τ 0 35 v) := ⟨R_35 h.1 v, h.2.1, xst_gen h.2.2.1 (by unfold xrng; simp), h.2.2.2.1, HBm_35 h.2.2.2.2.1 v, h.2.2.2.2.2⟩
theorem no_range {a b x : Int32} {p q : Int} (ha : a.toInt = p) (hb : b.toInt = q) (h : rg p q x) : ¬ ((x < a) ∨ (b < x)) := by
  have h1 := h.1; have h2 := h.2
  rw [i_lt, i_lt, ha, hb]; omega
theorem tn_le {x : Int32} {p q : Int} (h : rg p q x) (hp : 0 ≤ p) : (x.toNatClampNeg : Int) ≤ q := by
  have := rg_nI (rg_w h hp (Int.le_refl q)); have h2 := h.2; omega
theorem I_run {B m : Int} {σ τ : Sg} (h : IV B m σ τ) {x1 : Int32} (hx : rg 1 5000 x1) (hm : m ≤ 1490000000) (hB : B ≤ 4253967290) : (x1_run σ x1).1 = (m_run τ x1).1 ∧ IV (B + 40600000) (m + 1700000) (x1_run σ x1).2 (m_run τ x1).2 := by
  have hn : (x1.toNatClampNeg : Int) ≤ 5000 := tn_le hx (by decide)
  have oX : x1_runQ (B + 40600000) 8000 (x1_run σ x1) := by
    have q := okh_x1_runL x1 hx (x1.toNatClampNeg + 1) σ 0 0 B 8000 h.2.1 h.2.2.2.1 rfl (by omega) (rg_w rl_0 (by decide) (by decide)) (by rw [ti0]; have := hx.1; omega) (by rw [ti0]; have := (rg_nI (rg_w hx (by decide) (Int.le_refl _) : rg 0 5000 x1)).2; omega)
    exact ⟨q.1, HBm.w q.2 (by omega) (Int.le_refl _)⟩
  have oM := okh_m_run τ x1 h.2.2.1 h.2.2.2.2.1 hm h.2.2.2.2.2 hB
  have key : RP false (x1_run σ x1) (m_run τ x1) := by
    unfold x1_run m_run
    rw [if_neg (no_range (by decide +kernel) (by decide +kernel) hx)]
    refine ltl_P ?_
    show RP false (x1_runL (x1.toNatClampNeg + 1) σ x1 0 0) (if (sst τ 0 35 (if (1 : Int32) = 0 then 1 else 0)) 0 8 = 0 then (0, sst τ 0 35 (if (1 : Int32) = 0 then 1 else 0)) else m_runL (x1.toNatClampNeg + 1) (sst τ 0 35 (if (1 : Int32) = 0 then 1 else 0)) x1 0 0)
    rw [if_neg (show ¬ (1 : Int32) = 0 by decide)]
    have h2 := IV_35 h (v := 0) (rg_w rl_0 (by decide) (by decide))
    revert h2
    generalize sst τ 0 35 0 = t
    intro h2
    rw [← h2.1.sc 8 rfl]
    by_cases q : σ 0 8 = 0
    · rw [if_pos q]
      unfold x1_runL
      rw [if_pos (Or.inr q)]
      exact RP_i rfl h2.1
    · rw [if_neg q]
      exact R_runL x1 _ _ _ _ _ B m h2.1 h2.2.1 h2.2.2.1 h2.2.2.2.1 h2.2.2.2.2.1 (by omega) h2.2.2.2.2.2 (by omega) q
  exact ⟨key.1, key.2, oX.1, oM.1, oX.2, oM.2, by have := h.2.2.2.2.2; omega⟩
theorem I_pass {B m : Int} {σ τ : Sg} (h : IV B m σ τ) {x1 : Int32} (hx : rg 1 200000 x1) (hm : m ≤ 1490000000) (hB : B ≤ 4253967290) : (x1_pass σ x1).1 = (m_pass τ x1).1 ∧ IV (B + 40600000) (m + 1700000) (x1_pass σ x1).2 (m_pass τ x1).2 := by
  have hn : (x1.toNatClampNeg : Int) ≤ 200000 := tn_le hx (by decide)
  have oX : x1_passQ (B + 40600000) 8000 (x1_pass σ x1) := by
    have h2 := hx.2
    have q := okh_x1_passL x1 hx (x1.toNatClampNeg + 1) σ 0 B 8000 h.2.1 h.2.2.2.1 rfl (by rw [ti0]; omega) (rg_w rl_0 (by decide) (by decide)) (by rw [ti0]; have := hx.1; omega) ⟨by omega, by rw [ti0]; have := (rg_nI (rg_w hx (by decide) (Int.le_refl _) : rg 0 200000 x1)).2; omega⟩
    exact ⟨q.1, HBm.w q.2 (by rw [ti0]; omega) (Int.le_refl _)⟩
  have oM := okh_m_pass τ x1 h.2.2.1 h.2.2.2.2.1 hm h.2.2.2.2.2 hB
  have key : RP false (x1_pass σ x1) (m_pass τ x1) := by
    unfold x1_pass m_pass
    rw [if_neg (no_range (by decide +kernel) (by decide +kernel) hx)]
    refine ltl_P ?_
    show RP false (x1_passL (x1.toNatClampNeg + 1) σ x1 0) (if (sst τ 0 35 (if (1 : Int32) = 0 then 1 else 0)) 0 8 = 0 then (0, sst τ 0 35 (if (1 : Int32) = 0 then 1 else 0)) else m_passL (x1.toNatClampNeg + 1) (sst τ 0 35 (if (1 : Int32) = 0 then 1 else 0)) x1 0)
    rw [if_neg (show ¬ (1 : Int32) = 0 by decide)]
    have h2 := IV_35 h (v := 0) (rg_w rl_0 (by decide) (by decide))
    revert h2
    generalize sst τ 0 35 0 = t
    intro h2
    rw [← h2.1.sc 8 rfl]
    by_cases q : σ 0 8 = 0
    · rw [if_pos q]
      unfold x1_passL
      rw [if_pos (Or.inr q)]
      exact RP_i rfl h2.1
    · rw [if_neg q]
      have := hx.2
      exact R_passPL x1 hx _ _ _ _ B m h2.1 h2.2.1 h2.2.2.1 h2.2.2.2.1 h2.2.2.2.2.1 (by omega) h2.2.2.2.2.2 (by rw [ti0]; omega) (rg_w rl_0 (by decide) (by decide)) q
  exact ⟨key.1, key.2, oX.1, oM.1, oX.2, oM.2, by have := h.2.2.2.2.2; omega⟩
