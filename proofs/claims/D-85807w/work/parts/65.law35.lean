/-! PLAIN LAW 35: the calls from outside -/
set_option maxRecDepth 100000
theorem IV_set {B m : Int} {σ τ σ2 τ2 : Sg} (h : IV B m σ τ) (r : R false σ2 τ2) (ok : XOK σ2) (okt : XOK τ2) (e1 : σ2 0 20 = σ 0 20 ∧ σ2 0 13 = σ 0 13 ∧ σ2 0 1 = σ 0 1) (e2 : τ2 0 20 = τ 0 20 ∧ τ2 0 13 = τ 0 13 ∧ τ2 0 1 = τ 0 1) : IV B m σ2 τ2 := ⟨r, ok, okt, HBm.same h.2.2.2.1 e1.1 e1.2.1 e1.2.2, HBm.same h.2.2.2.2.1 e2.1 e2.2.1 e2.2.2, h.2.2.2.2.2⟩
theorem I_step {B m : Int} {σ τ : Sg} (h : IV B m σ τ) (hm : m ≤ 1490000000) (hB : B ≤ 4253967290) : (x1_step σ).1 = (m_step τ).1 ∧ IV (B + 8100) (m + 8) (x1_step σ).2 (m_step τ).2 := by
  have eX : x1_step σ = x2_step σ := rfl
  have h2 := IV_35 h (v := 0) (rg_w rl_0 (by decide) (by decide))
  have eM : m_step τ = if (sst τ 0 35 0) 0 8 = 0 then (0, sst τ 0 35 0) else m_stepped (sst τ 0 35 0) := by
    unfold m_step
    refine lt_l ?_
    refine lt_l ?_
    by_cases q : (sst τ 0 35 0) 0 8 = 0
    · rw [if_pos q, if_pos q]
    · rw [if_neg q, if_neg q]; rfl
  rw [eX, eM]
  revert h2
  generalize sst τ 0 35 0 = t
  intro h2
  have oX := okh_x2_step σ h2.2.1 h2.2.2.2.1 (by decide) (by omega)
  rw [← h2.1.sc 8 rfl]
  by_cases q : σ 0 8 = 0
  · have e0 : x2_step σ = (0, σ) := by unfold x2_step; rw [if_pos q]
    rw [if_pos q, e0]
    refine ⟨rfl, h2.1, h2.2.1, h2.2.2.1, HBm.w h2.2.2.2.1 (by omega) (Int.le_refl _), HBm.w h2.2.2.2.2.1 (by omega) (by omega), by have := h2.2.2.2.2.2; omega⟩
  · rw [if_neg q]
    have hs := R_step h2.1 h2.2.1 h2.2.2.1 q
    have oM := okh_m_stepped t h2.2.2.1 h2.2.2.2.2.1 (by omega) h2.2.2.2.2.2 (by omega)
    have r1 := oX.1.2.2
    have r2 := oM.1.2.2
    exact ⟨hs.1, hs.2, oX.1.1, oM.1.1, HBm.w oX.2 (by omega) (Int.le_refl _), HBm.w oM.2 (by omega) (Int.le_refl _), by have := h2.2.2.2.2.2; omega⟩
theorem mright1 (τ : Sg) : m_right τ 1 = (1, sst τ 0 35 0) := rfl
theorem mright0 (τ : Sg) : m_right τ 0 = (0, sst τ 0 35 1) := rfl
theorem I_sent {B m : Int} {σ τ : Sg} (h : IV B m σ τ) : x1_sent σ = (m_sent τ).1 ∧ IV B m σ (m_sent τ).2 := ⟨h.1.sc 20 rfl, IV_35 h (rg_w rl_0 (by decide) (by decide))⟩
/-- a byte from the host -/
theorem R_add {b : Bool} {σ τ : Sg} (h : R b σ τ) (ok : XOK σ) (hn : ¬ σ 0 19 = 300) (v : Int32) : R b (sst (sst σ 6 (((σ 0 34) + (σ 0 19)) - ((σ 0 34) + (σ 0 19)) / 300 * 300).toNatClampNeg v) 0 19 ((σ 0 19) + 1)) (sst (sst τ 6 (τ 0 19).toNatClampNeg v) 0 19 ((τ 0 19) + 1)) := by
  have r34 := xr0_34 ok
  have r19 := xr0_19 ok
  obtain ⟨e34, f34⟩ := rg_nI r34
  obtain ⟨e19, f19⟩ := rg_nI r19
  have b34 := r34.2; have a34 := r34.1
  have b19 := r19.2; have a19 := r19.1
  have t300 : (300 : Int32).toInt = 300 := by decide +kernel
  have i19 : ¬ (σ 0 19).toInt = 300 := fun z => hn (i_eq.mpr (z.trans t300.symm))
  have es : (σ 0 34 + σ 0 19).toInt = (σ 0 34).toInt + (σ 0 19).toInt := toInt_add' (by omega) (by omega)
  have en : σ 0 34 + σ 0 19 = nI ((σ 0 34).toNatClampNeg + (σ 0 19).toNatClampNeg) := i_eq.mpr (by rw [es, nI_toInt (by omega)]; omega)
  have et : (((σ 0 34) + (σ 0 19)) - ((σ 0 34) + (σ 0 19)) / 300 * 300).toNatClampNeg = ((σ 0 34).toNatClampNeg + (σ 0 19).toNatClampNeg) % 300 := by
    have q := pk_rem (a := (σ 0 34).toNatClampNeg + (σ 0 19).toNatClampNeg) (d := 300) (by omega) (by decide) (by decide)
    rw [← en] at q
    have q2 : ((σ 0 34) + (σ 0 19)) - ((σ 0 34) + (σ 0 19)) / 300 * 300 = nI (((σ 0 34).toNatClampNeg + (σ 0 19).toNatClampNeg) % 300) := q
    rw [q2]
    exact tn_nI (by have := Nat.mod_lt ((σ 0 34).toNatClampNeg + (σ 0 19).toNatClampNeg) (show 300 > 0 by decide); omega)
  have e1 : (σ 0 19 + 1).toInt = (σ 0 19).toInt + 1 := by rw [toInt_add' (by rw [ti1]; omega) (by rw [ti1]; omega), ti1]
  have n1 : (σ 0 19 + 1).toNatClampNeg = (σ 0 19).toNatClampNeg + 1 := tn_int (by omega)
  rw [et, ← h.sc 19 rfl]
  generalize hN : (σ 0 19).toNatClampNeg = n at *
  generalize hH : (σ 0 34).toNatClampNeg = p at *
  have g0 : ∀ (s : Sg) (k : Nat) (j : Nat) (w : Int32), j ≠ 19 → (sst (sst s 6 k v) 0 19 w) 0 j = s 0 j := fun s k j w hj => (sst_ne_j _ _ hj).trans (sst_ne_k _ _ (by decide))
  have gr : ∀ (s : Sg) (k a : Nat) (w : Int32), a ≠ 0 → a ≠ 6 → (sst (sst s 6 k v) 0 19 w) a = s a := fun s k a w h1 h2 => (sst_row _ _ h1).trans (sst_row _ _ h2)
  have g6 : ∀ (s : Sg) (k j : Nat) (w : Int32), (sst (sst s 6 k v) 0 19 w) 6 j = if j = k then v else s 6 j := by
    intro s k j w
    rw [sst_ne_k _ _ (by decide), sst_get]
    by_cases q : j = k
    · rw [if_pos ⟨rfl, q⟩, if_pos q]
    · rw [if_neg (fun z => q z.2), if_neg q]
  have g19 : ∀ (s : Sg) (k : Nat) (w : Int32), (sst (sst s 6 k v) 0 19 w) 0 19 = w := fun s k w => sst_eq _ _ _ _
  generalize hS : sst (sst σ 6 ((p + n) % 300) v) 0 19 (σ 0 19 + 1) = S
  generalize hT : sst (sst τ 6 n v) 0 19 (σ 0 19 + 1) = T
  have S0 : ∀ j, j ≠ 19 → S 0 j = σ 0 j := fun j hj => by rw [← hS]; exact g0 σ _ j _ hj
  have T0 : ∀ j, j ≠ 19 → T 0 j = τ 0 j := fun j hj => by rw [← hT]; exact g0 τ _ j _ hj
  have Sr : ∀ a, a ≠ 0 → a ≠ 6 → S a = σ a := fun a h1 h2 => by rw [← hS]; exact gr σ _ a _ h1 h2
  have Tr : ∀ a, a ≠ 0 → a ≠ 6 → T a = τ a := fun a h1 h2 => by rw [← hT]; exact gr τ _ a _ h1 h2
  have S6 : ∀ j, S 6 j = if j = (p + n) % 300 then v else σ 6 j := fun j => by rw [← hS]; exact g6 σ _ j _
  have T6 : ∀ j, T 6 j = if j = n then v else τ 6 j := fun j => by rw [← hT]; exact g6 τ _ j _
  have S19 : S 0 19 = σ 0 19 + 1 := by rw [← hS]; exact g19 σ _ _
  have T19 : T 0 19 = σ 0 19 + 1 := by rw [← hT]; exact g19 τ _ _
  have x1 := Sr 1 (by decide) (by decide); have x2 := Sr 2 (by decide) (by decide); have x3 := Sr 3 (by decide) (by decide); have x4 := Sr 4 (by decide) (by decide); have x5 := Sr 5 (by decide) (by decide)
  have y1 := Tr 1 (by decide) (by decide); have y2 := Tr 2 (by decide) (by decide); have y3 := Tr 3 (by decide) (by decide); have y4 := Tr 4 (by decide) (by decide); have y5 := Tr 5 (by decide) (by decide); have y7 := Tr 7 (by decide) (by decide)
  refine R_mk ?_ ?_ ?_ ?_ ?_ ?_ ?_ ?_ ?_ ?_ ?_ ?_ ?_ ?_ ?_ ?_ ?_ ?_ ?_
  · intro j hj
    by_cases q : j = 19
    · rw [q, S19, T19]
    · rw [S0 j q, T0 j q]; exact h.sc j hj
  · intro q; rw [S0 1 (by decide), T0 1 (by decide)]; exact h.mo q
  · intro j hj; rw [x1, y1]; exact h.da j hj
  · rw [x2, y2]; exact h.fl
  · rw [x3, y3]; exact h.er
  · rw [x4, y4]; exact h.kp
  · rw [y1, h.s2]
    exact (x6s_0 S σ (S0 18 (by decide)) (S0 32 (by decide)) (S0 11 (by decide)) (S0 31 (by decide)) (S0 33 (by decide))).symm
  · rw [y1, x1, S0 21 (by decide), S0 22 (by decide)]; exact h.ee
  · rw [x1]; exact h.e8
  · rw [x5, y5, y7]; exact h.bu
  · intro k hk
    rw [S19, n1] at hk
    rw [S0 34 (by decide), hH, S6, T6]
    by_cases q : k = n
    · rw [if_pos (by rw [q]), if_pos q]
    · rw [if_neg (by omega), if_neg q]
      have := h.ri k (by omega)
      rw [hH] at this; exact this
  · intro j hj
    have q : j ≠ 19 := by intro q; subst q; cases hj
    rw [S0 j q]; exact h.wi j hj
  · rw [x1]; exact h.d53
  · rw [x1]; exact h.d85
  · rw [x1]; exact h.d87
  · rw [x1]; exact h.dg
  · intro j; rw [x1]; exact h.un j
  · rw [S0 30 (by decide)]; exact h.rs
  · rw [S0 6 (by decide), S0 7 (by decide)]; exact h.sf
theorem I_host {B m : Int} {σ τ : Sg} (h : IV B m σ τ) (x1 : Int32) : (x1_host σ x1).1 = (m_host τ x1).1 ∧ IV B m (x1_host σ x1).2 (m_host τ x1).2 := by
  have eX : x1_host σ x1 = x6_add σ x1 := rfl
  have h2 := IV_35 h (v := 0) (rg_w rl_0 (by decide) (by decide))
  have oX := ok_x1_host σ x1 h.2.1
  have oM := ok_m_host τ x1 h.2.2.1
  have kX := kp_x1_host σ x1 (ka := σ 0 20) (kb := σ 0 13) ⟨rfl, rfl, h.2.2.2.1.2⟩ (by decide)
  have f20 : (m_host τ x1).2 0 20 = τ 0 20 ∧ (m_host τ x1).2 0 13 = τ 0 13 ∧ (m_host τ x1).2 0 1 = τ 0 1 := by
    unfold m_host
    rw [lt_g (sst τ 0 35 0)]
    by_cases q : (sst τ 0 35 0) 0 19 = 300
    · rw [if_pos q]; exact ⟨rfl, rfl, rfl⟩
    · rw [if_neg q]; exact ⟨rfl, rfl, rfl⟩
  have key : (x1_host σ x1).1 = (m_host τ x1).1 ∧ R false (x1_host σ x1).2 (m_host τ x1).2 := by
    rw [eX]
    unfold x6_add m_host
    rw [lt_g (sst τ 0 35 0)]
    revert h2
    generalize sst τ 0 35 0 = t
    intro h2
    rw [← h2.1.sc 19 rfl]
    by_cases q : σ 0 19 = 300
    · rw [if_pos q, if_pos q]; exact ⟨rfl, h2.1⟩
    · rw [if_neg q, if_neg q]
      have hr := R_add h2.1 h2.2.1 q (x1 &&& 255)
      have e1 : ∀ (s : Sg) (k : Nat), (sst s 6 k (x1 &&& 255)) 0 19 = s 0 19 := fun s k => sst_ne_k _ _ (by decide)
      have eq19 : t 0 19 = σ 0 19 := (h2.1.sc 19 rfl).symm
      rw [eq19] at hr
      rw [lt_g (sst σ 6 _ (x1 &&& 255)), lt_g (sst t 6 _ (x1 &&& 255)), e1, e1, eq19]
      rw [lt_g (sst (sst σ 6 _ (x1 &&& 255)) 0 19 _), lt_g (sst (sst t 6 _ (x1 &&& 255)) 0 19 _)]
      exact ⟨by rw [sst_eq, sst_eq], hr⟩
  exact ⟨key.1, key.2, oX.1, oM.1, HBm.kp h.2.2.2.1 kX, HBm.same h.2.2.2.2.1 f20.1 f20.2.1 f20.2.2, h.2.2.2.2.2⟩
theorem I_word {B m : Int} {σ τ : Sg} (h : IV B m σ τ) {x1 : Int32} (hx : rg 0 2047 x1) : (x1_word σ x1).1 = (m_word τ x1).1 ∧ IV B m (x1_word σ x1).2 (m_word τ x1).2 := by
  have h2 := IV_35 h (v := 0) (rg_w rl_0 (by decide) (by decide))
  have eM : m_word τ x1 = ((sst τ 0 35 0) 2 x1.toNatClampNeg, sst τ 0 35 0) := by
    unfold m_word
    rw [if_pos ⟨nneg hx, by rw [i_lt, ti2048]; have := hx.2; omega⟩]
    rfl
  rw [eM]
  exact ⟨congrFun h2.1.fl x1.toNatClampNeg, h2⟩
theorem I_eeprom {B m : Int} {σ τ : Sg} (h : IV B m σ τ) {x1 : Int32} (hx : rg 0 255 x1) : (x1_eeprom σ x1).1 = (m_eeprom τ x1).1 ∧ IV B m (x1_eeprom σ x1).2 (m_eeprom τ x1).2 := by
  have h2 := IV_35 h (v := 0) (rg_w rl_0 (by decide) (by decide))
  have eM : m_eeprom τ x1 = ((sst τ 0 35 0) 3 x1.toNatClampNeg, sst τ 0 35 0) := by
    unfold m_eeprom
    rw [if_pos ⟨nneg hx, by rw [i_lt, ti256]; have := hx.2; omega⟩]
    rfl
  rw [eM]
  exact ⟨congrFun h2.1.er x1.toNatClampNeg, h2⟩
theorem I_got {B m : Int} {σ τ : Sg} (h : IV B m σ τ) {x1 : Int32} (hx : ¬ x1 < 0) (hx2 : x1 < σ 0 20) (hx3 : x1 < 1000) : x1_got σ x1 = (m_got τ x1).1 ∧ IV B m σ (m_got τ x1).2 := by
  have h2 := IV_35 h (v := 0) (rg_w rl_0 (by decide) (by decide))
  have eM : m_got τ x1 = ((sst τ 0 35 0) 4 x1.toNatClampNeg, sst τ 0 35 0) := by
    unfold m_got
    rw [if_pos ⟨hx, by rw [← h.1.sc 20 rfl]; exact hx2, hx3⟩]
    rfl
  rw [eM]
  exact ⟨congrFun h2.1.kp x1.toNatClampNeg, h2⟩
theorem I_pins {B m : Int} {σ τ : Sg} (h : IV B m σ τ) (x1 : Int32) : (x1_pins σ x1).1 = (m_pins τ x1).1 ∧ IV B m (x1_pins σ x1).2 (m_pins τ x1).2 := by
  have h2 := IV_35 h (v := 0) (rg_w rl_0 (by decide) (by decide))
  have eX : x1_pins σ x1 = (σ 0 9, sst σ 0 9 (x1 &&& 255)) := rfl
  have eM : m_pins τ x1 = ((sst τ 0 35 0) 0 9, sst (sst τ 0 35 0) 0 9 (x1 &&& 255)) := rfl
  rw [eX, eM]
  exact ⟨h2.1.sc 9 rfl, IV_set h2 (R_scal h2.1 rfl rfl (fun q => by cases q)) (xst_f0_9 h2.2.1) (xst_f0_9 h2.2.2.1) ⟨rfl, rfl, rfl⟩ ⟨rfl, rfl, rfl⟩⟩
theorem I_fuses {B m : Int} {σ τ : Sg} (h : IV B m σ τ) (x1 : Int32) : (x1_fuses σ x1).1 = (m_fuses τ x1).1 ∧ IV B m (x1_fuses σ x1).2 (m_fuses τ x1).2 := by
  have h2 := IV_35 h (v := 0) (rg_w rl_0 (by decide) (by decide))
  have eX : x1_fuses σ x1 = ((σ 0 28) ||| ((σ 0 29) <<< (4 : Int32)), sst (sst σ 0 28 (x1 &&& 15)) 0 29 ((x1 >>> (4 : Int32)) &&& 1)) := rfl
  have eM : m_fuses τ x1 = ((((sst τ 0 35 0) 0 29) <<< (4 : Int32)) ||| ((sst τ 0 35 0) 0 28), sst (sst (sst τ 0 35 0) 0 28 (x1 &&& 15)) 0 29 ((x1 >>> (4 : Int32)) &&& 1)) := rfl
  rw [eX, eM]
  have r15 : rg 0 15 (x1 &&& 15) := rg15 x1
  have r1 : rg 0 1 ((x1 >>> (4 : Int32)) &&& 1) := rg_and_r (rg_w rl_1 (by decide) (by decide))
  refine ⟨?_, IV_set h2 (R_scal (R_scal h2.1 rfl rfl (fun q => by cases q)) rfl rfl (fun q => by cases q)) (xst_0_29 (xst_0_28 h2.2.1 r15) r1) (xst_0_29 (xst_0_28 h2.2.2.1 r15) r1) ⟨rfl, rfl, rfl⟩ ⟨rfl, rfl, rfl⟩⟩
  show (σ 0 28) ||| ((σ 0 29) <<< (4 : Int32)) = (((sst τ 0 35 0) 0 29) <<< (4 : Int32)) ||| ((sst τ 0 35 0) 0 28)
  rw [← h2.1.sc 28 rfl, ← h2.1.sc 29 rfl, Int32.or_comm]
theorem I_start {B m : Int} {σ τ : Sg} (h : IV B m σ τ) {x1 : Int32} (hx : rg 0 2047 x1) : IV B m (x1_start σ x1) (m_start τ x1) := by
  have h2 := IV_35 h (v := 0) (rg_w rl_0 (by decide) (by decide))
  have eX : x1_start σ x1 = sst (sst σ 0 0 x1) 0 6 0 := rfl
  have eM : m_start τ x1 = sst (sst (sst τ 0 35 0) 0 0 x1) 0 6 0 := by
    unfold m_start
    rw [if_pos ⟨nneg hx, by rw [i_lt, ti2048]; have := hx.2; omega⟩]
    rfl
  rw [eX, eM]
  exact IV_set h2 (R_sleep (R_pc h2.1 rfl) rfl (Or.inl rfl)) (xst_0_6 (xst_0_0 h2.2.1 hx) (rg_w rl_0 (by decide) (by decide))) (xst_0_6 (xst_0_0 h2.2.2.1 hx) (rg_w rl_0 (by decide) (by decide))) ⟨rfl, rfl, rfl⟩ ⟨rfl, rfl, rfl⟩
