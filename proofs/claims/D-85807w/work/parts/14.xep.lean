/-! CORE 3: pure functions and their invariant -/
set_option maxRecDepth 100000
def x2_passL : Nat → Sg → Int32 → Int32 → Int32 × Sg
  | 0, σ, _, v2 => (v2, σ)
  | n + 1, σ, x1, v2 =>
    if v2 < x1 then
      lt ((v2 + 1) : Int32) fun v7 =>
      lt (sst σ 0 2 ((σ 0 2) + 1)) fun s17 =>
      lt (x10_cycle s17) fun s24 =>
      lt (x8_shorter s24) fun s31 =>
      lt (x9_cycle s31) fun s38 =>
      lt (x7_cycle s38) fun s45 =>
      lt (x5_cycle s45) fun s52 =>
      lt (x6_cycle s52) fun s59 =>
      lt (x8_cycle s59) fun s66 =>
      if (s66 0 30) = 0 then
        x2_passL n s66 x1 v7
      else
        lt (sst s66 0 5 ((s66 0 5) + 1)) fun s86 =>
        lt (x2_reset s86 3) fun s91 =>
        (v7, s91)
    else
      (v2, σ)
def HBmv (B : Int) (v : Int32) (m : Int) (r : Int32 × Sg) : Prop := HBm (B + (r.1.toInt - v.toInt)) m r.2
def PasL (v2 x1 : Int32) (r : Int32 × Sg) : Prop := XOK r.2 ∧ v2.toInt ≤ r.1.toInt ∧ r.1.toInt ≤ 8100 ∧ (v2.toInt < x1.toInt → 1 ≤ r.1.toInt)
set_option maxHeartbeats 4000000 in
theorem ok_x2_passL (x1 : Int32) (hx1 : rg 1 8100 x1) : ∀ (n : Nat) (σ : Sg) (v2 : Int32) (B m : Int), XOK σ → HBm B m σ → m ≤ 1500260000 → B + n ≤ 4294967290 → rg 0 8100 v2 → v2.toInt ≤ x1.toInt → x1.toInt - v2.toInt < n → PasL v2 x1 (x2_passL n σ x1 v2) := by
  intro n
  induction n with
  | zero => intro σ v2 B m ok hk hm hB hv2 hv3 hmz; omega
  | succ n ih =>
    intro σ v2 B m ok hk hm hB hv2 hv3 hmz
    have hm0 : 0 ≤ m := hk.nn
    rw [x2_passL]
    refine ite_pred (fun c4 => ?_) (fun c4 => ?_)
    · refine lt_pred (fun v7 e7 => ?_)
      have f7 : rg 1 8100 v7 := by rw [e7]; exact (rg_add (rg_lt_hi hv2 c4 hx1) rl_1 (by decide) (by decide))
      refine lt_pred (fun s17 e17 => ?_)
      have k17 : XOK s17 := by rw [e17]; exact xst_f0_2 ok
      have q17 : HBm B m s17 := by rw [e17]; exact HBm.same hk rfl rfl rfl
      refine lt_pred (fun s24 e24 => ?_)
      have k24 : XOK s24 := by rw [e24]; exact ok_x10_cycle s17 k17
      have q24 : HBm B m s24 := by rw [e24]; exact HBm.w (HBm.kp q17 (kp_x10_cycle s17 (ka := s17 0 20) (kb := s17 0 13) ⟨rfl, rfl, q17.2⟩ (by omega))) (by omega) (by omega)
      refine lt_pred (fun s31 e31 => ?_)
      have k31 : XOK s31 := by rw [e31]; exact ok_x8_shorter s24 k24
      have q31 : HBm B m s31 := by rw [e31]; exact HBm.w (HBm.kp q24 (kp_x8_shorter s24 (ka := s24 0 20) (kb := s24 0 13) ⟨rfl, rfl, q24.2⟩ (by omega))) (by omega) (by omega)
      refine lt_pred (fun s38 e38 => ?_)
      have k38 : XOK s38 := by rw [e38]; exact ok_x9_cycle s31 k31
      have q38 : HBm B m s38 := by rw [e38]; exact HBm.w (HBm.kp q31 (kp_x9_cycle s31 (ka := s31 0 20) (kb := s31 0 13) ⟨rfl, rfl, q31.2⟩ (by omega))) (by omega) (by omega)
      refine lt_pred (fun s45 e45 => ?_)
      have k45 : XOK s45 := by rw [e45]; exact ok_x7_cycle s38 k38
      have q45 : HBm B m s45 := by rw [e45]; exact HBm.w (HBm.kp q38 (kp_x7_cycle s38 (ka := s38 0 20) (kb := s38 0 13) ⟨rfl, rfl, q38.2⟩ (by omega))) (by omega) (by omega)
      refine lt_pred (fun s52 e52 => ?_)
      have k52 : XOK s52 := by rw [e52]; exact ok_x5_cycle s45 k45
      have q52 : HBm B m s52 := by rw [e52]; exact HBm.w (HBm.kp q45 (kp_x5_cycle s45 (ka := s45 0 20) (kb := s45 0 13) ⟨rfl, rfl, q45.2⟩ (by omega))) (by omega) (by omega)
      refine lt_pred (fun s59 e59 => ?_)
      have k59 : XOK s59 := by rw [e59]; exact ok_x6_cycle s52 k52 (HBm.had q52 (by omega))
      have q59 : HBm (B + 1) m s59 := by rw [e59]; exact HBm.w (hm_x6_cycle s52 q52 (by omega) (by omega) ) (by omega) (by omega)
      refine lt_pred (fun s66 e66 => ?_)
      have k66 : XOK s66 := by rw [e66]; exact ok_x8_cycle s59 k59
      have q66 : HBm (B + 1) m s66 := by rw [e66]; exact HBm.w (HBm.kp q59 (kp_x8_cycle s59 (ka := s59 0 20) (kb := s59 0 13) ⟨rfl, rfl, q59.2⟩ (by omega))) (by omega) (by omega)
      refine ite_pred (fun c73 => ?_) (fun c73 => ?_)
      · have h1 := Int32.lt_iff_toInt_lt.mp c4
        have h2 : v7.toInt = v2.toInt + 1 := by rw [e7]; exact toInt_add' (by show _ ≤ v2.toInt + (1 : Int); have := hv2.1; omega) (by show v2.toInt + (1 : Int) < _; have := hx1.2; omega)
        have h3 := hx1.2
        have h4 := hv2.1
        have r := ih s66 v7 (B + 1) m k66 q66 hm (by omega) ⟨by omega, by omega⟩ (by omega) (by omega)
        exact ⟨r.1, by have := r.2.1; omega, r.2.2.1, by have := r.2.1; omega⟩
      · refine lt_pred (fun s86 e86 => ?_)
        have k86 : XOK s86 := by rw [e86]; exact xst_f0_5 k66
        have q86 : HBm (B + 1) m s86 := by rw [e86]; exact HBm.same q66 rfl rfl rfl
        have y30_86 : rg 1 1 (s86 0 30) := by rw [e86]; exact (show rg 1 1 (s66 0 30) from (rg_ne_lo (xr0_30 k66) c73 (by decide +kernel)))
        refine lt_pred (fun s91 e91 => ?_)
        have k91 : XOK s91 := by rw [e91]; exact ok_x2_reset s86 3 k86 (rg_w rl_3 (by decide) (by decide))
        have q91 : HBm (B + 1) m s91 := by rw [e91]; exact HBm.w (hm_x2_reset s86 3 q86 (by omega) ) (by omega) (by omega)
        have h1 := Int32.lt_iff_toInt_lt.mp c4
        have h2 : v7.toInt = v2.toInt + 1 := by rw [e7]; exact toInt_add' (by show _ ≤ v2.toInt + (1 : Int); have := hv2.1; omega) (by show v2.toInt + (1 : Int) < _; have := hx1.2; omega)
        have h3 := hx1.2
        have h4 := hv2.1
        exact (show XOK s91 ∧ v2.toInt ≤ v7.toInt ∧ v7.toInt ≤ 8100 ∧ (v2.toInt < x1.toInt → 1 ≤ v7.toInt) from ⟨k91, by omega, by omega, by omega⟩)
    · exact ⟨ok, Int.le_refl _, hv2.2, fun q => absurd (Int32.lt_iff_toInt_lt.mpr q) c4⟩

set_option maxHeartbeats 4000000 in
theorem hm_x2_passL (x1 : Int32) (hx1 : rg 1 8100 x1) : ∀ (n : Nat) (σ : Sg) (v2 : Int32) (B m : Int), HBm B m σ → m ≤ 1500260000 → B + n ≤ 4294967290 → rg 0 8100 v2 → v2.toInt ≤ x1.toInt → x1.toInt - v2.toInt < n → HBmv B v2 m (x2_passL n σ x1 v2) := by
  intro n
  induction n with
  | zero => intro σ v2 B m hk hm hB hv2 hv3 hmz; omega
  | succ n ih =>
    intro σ v2 B m hk hm hB hv2 hv3 hmz
    have hm0 : 0 ≤ m := hk.nn
    rw [x2_passL]
    refine ite_pred (fun c4 => ?_) (fun c4 => ?_)
    · refine lt_pred (fun v7 e7 => ?_)
      refine lt_pred (fun s17 e17 => ?_)
      have q17 : HBm B m s17 := by rw [e17]; exact HBm.same hk rfl rfl rfl
      refine lt_pred (fun s24 e24 => ?_)
      have q24 : HBm B m s24 := by rw [e24]; exact HBm.w (HBm.kp q17 (kp_x10_cycle s17 (ka := s17 0 20) (kb := s17 0 13) ⟨rfl, rfl, q17.2⟩ (by omega))) (by omega) (by omega)
      refine lt_pred (fun s31 e31 => ?_)
      have q31 : HBm B m s31 := by rw [e31]; exact HBm.w (HBm.kp q24 (kp_x8_shorter s24 (ka := s24 0 20) (kb := s24 0 13) ⟨rfl, rfl, q24.2⟩ (by omega))) (by omega) (by omega)
      refine lt_pred (fun s38 e38 => ?_)
      have q38 : HBm B m s38 := by rw [e38]; exact HBm.w (HBm.kp q31 (kp_x9_cycle s31 (ka := s31 0 20) (kb := s31 0 13) ⟨rfl, rfl, q31.2⟩ (by omega))) (by omega) (by omega)
      refine lt_pred (fun s45 e45 => ?_)
      have q45 : HBm B m s45 := by rw [e45]; exact HBm.w (HBm.kp q38 (kp_x7_cycle s38 (ka := s38 0 20) (kb := s38 0 13) ⟨rfl, rfl, q38.2⟩ (by omega))) (by omega) (by omega)
      refine lt_pred (fun s52 e52 => ?_)
      have q52 : HBm B m s52 := by rw [e52]; exact HBm.w (HBm.kp q45 (kp_x5_cycle s45 (ka := s45 0 20) (kb := s45 0 13) ⟨rfl, rfl, q45.2⟩ (by omega))) (by omega) (by omega)
      refine lt_pred (fun s59 e59 => ?_)
      have q59 : HBm (B + 1) m s59 := by rw [e59]; exact HBm.w (hm_x6_cycle s52 q52 (by omega) (by omega) ) (by omega) (by omega)
      refine lt_pred (fun s66 e66 => ?_)
      have q66 : HBm (B + 1) m s66 := by rw [e66]; exact HBm.w (HBm.kp q59 (kp_x8_cycle s59 (ka := s59 0 20) (kb := s59 0 13) ⟨rfl, rfl, q59.2⟩ (by omega))) (by omega) (by omega)
      refine ite_pred (fun c73 => ?_) (fun c73 => ?_)
      · have h1 := Int32.lt_iff_toInt_lt.mp c4
        have h2 : v7.toInt = v2.toInt + 1 := by rw [e7]; exact toInt_add' (by show _ ≤ v2.toInt + (1 : Int); have := hv2.1; omega) (by show v2.toInt + (1 : Int) < _; have := hx1.2; omega)
        have h3 := hx1.2
        have h4 := hv2.1
        have r := ih s66 v7 (B + 1) m q66 hm (by omega) ⟨by omega, by omega⟩ (by omega) (by omega)
        exact HBm.w r (by omega) (Int.le_refl _)
      · refine lt_pred (fun s86 e86 => ?_)
        have q86 : HBm (B + 1) m s86 := by rw [e86]; exact HBm.same q66 rfl rfl rfl
        refine lt_pred (fun s91 e91 => ?_)
        have q91 : HBm (B + 1) m s91 := by rw [e91]; exact HBm.w (hm_x2_reset s86 3 q86 (by omega) ) (by omega) (by omega)
        have h1 := Int32.lt_iff_toInt_lt.mp c4
        have h2 : v7.toInt = v2.toInt + 1 := by rw [e7]; exact toInt_add' (by show _ ≤ v2.toInt + (1 : Int); have := hv2.1; omega) (by show v2.toInt + (1 : Int) < _; have := hx1.2; omega)
        have h3 := hx1.2
        have h4 := hv2.1
        exact (show HBm (B + (v7.toInt - v2.toInt)) m s91 from HBm.w q91 (by omega) (Int.le_refl _))
    · exact (show HBm (B + (v2.toInt - v2.toInt)) m σ from HBm.w hk (by omega) (Int.le_refl _))

def x2_pass (σ : Sg) (x1 : Int32) : Int32 × Sg := x2_passL (x1.toNatClampNeg + 1) σ x1 0
set_option maxHeartbeats 4000000 in
theorem ok_x2_pass (σ : Sg) (x1 : Int32) (ok : XOK σ) {B m : Int} (hk : HBm B m σ) (hm : m ≤ 1500260000) (hB : B ≤ 4294959189) (hx1 : rg 1 8100 x1) : (Pri XOK 1 8100) (x2_pass σ x1) := by
  have hf := (rg_nI (rg_w (lo2 := 0) hx1 (by decide) (Int.le_refl _))).2
  have hf2 := hx1.2
  have hf3 := hx1.1
  have z0 : (0 : Int32).toInt = 0 := by decide +kernel
  have r := ok_x2_passL x1 hx1 (x1.toNatClampNeg + 1) σ 0 B m ok hk hm (by omega) ⟨by omega, by omega⟩ (by omega) (by omega)
  exact ⟨r.1, r.2.2.2 (by omega), r.2.2.1⟩
set_option maxHeartbeats 4000000 in
theorem hmr_x2_pass (σ : Sg) (x1 : Int32) (ok : XOK σ) {B m : Int} (hk : HBm B m σ) (hm : m ≤ 1500260000) (hB : B ≤ 4294959189) (hx1 : rg 1 8100 x1) : HBm (B + (x2_pass σ x1).1.toInt) m (x2_pass σ x1).2 := by
  have hf := (rg_nI (rg_w (lo2 := 0) hx1 (by decide) (Int.le_refl _))).2
  have hf2 := hx1.2
  have hf3 := hx1.1
  have z0 : (0 : Int32).toInt = 0 := by decide +kernel
  have r := hm_x2_passL x1 hx1 (x1.toNatClampNeg + 1) σ 0 B m hk hm (by omega) ⟨by omega, by omega⟩ (by omega) (by omega)
  unfold HBmv at r
  rw [z0, Int.sub_zero] at r
  exact r
def x2_step (σ : Sg) : Int32 × Sg :=
  if (σ 0 8) = 0 then
    (0, σ)
  else
    lt (sst σ 0 3 ((σ 0 3) + 1)) fun s16 =>
    lt ((x2_waits s16) : Int32) fun v23 =>
    lt (sst s16 0 1 0) fun s28 =>
    lt ((s28 0 7) : Int32) fun v35 =>
    lt (sst s28 0 7 0) fun s38 =>
    lt ((
      if (0 < v23) ∧ (v35 = 0) then
        lt (x2_entry s38 v23) fun s51 =>
        lt (sst s51 0 1 0) fun s58 =>
        (4, s58)
      else
        if (s38 0 6) = 0 then
          lt (x2_instruction s38) fun z72 =>
          (z72.1, z72.2)
        else
          (1, s38)) : Int32 × Sg) fun z42 =>
    lt (x2_pass z42.2 (z42.1 + (z42.2 0 1))) fun z83 =>
    (z83.1, z83.2)
set_option maxHeartbeats 4000000 in
theorem okh_x2_step (σ : Sg) (ok : XOK σ) {B m : Int} (hk : HBm B m σ) (hm : m ≤ 8000) (hB : B ≤ 4294959189) : Prh XOK 0 8100 B 8000 (x2_step σ) := by
  have z0 : (0 : Int32).toInt = 0 := by decide +kernel
  have hm0 : 0 ≤ m := hk.nn
  unfold x2_step
  refine ite_pred (fun c4 => ?_) (fun c4 => ?_)
  · exact ⟨⟨ok, (rg_w rl_0 (by decide) (by decide))⟩, (show HBm (B + (0 : Int32).toInt) 8000 σ from HBm.w hk (by omega) (by omega))⟩
  · refine lt_pred (fun s16 e16 => ?_)
    have k16 : XOK s16 := by rw [e16]; exact xst_f0_3 ok
    have q16 : HBm B m s16 := by rw [e16]; exact HBm.same hk rfl rfl rfl
    have y8_16 : rg 1 1 (s16 0 8) := by rw [e16]; exact (show rg 1 1 (σ 0 8) from (rg_ne_lo (xr0_8 ok) c4 (by decide +kernel)))
    refine lt_pred (fun v23 e23 => ?_)
    have f23 : rg 0 8 v23 := by rw [e23]; exact (ok_x2_waits s16 k16)
    refine lt_pred (fun s28 e28 => ?_)
    have k28 : XOK s28 := by rw [e28]; exact xst_f0_1 k16
    have q28 : HBm B 0 s28 := by rw [e28]; exact HBm.z1 q16
    have y8_28 : rg 1 1 (s28 0 8) := by rw [e28]; exact (show rg 1 1 (s16 0 8) from y8_16)
    refine lt_pred (fun v35 e35 => ?_)
    have f35 : rg 0 1 v35 := by rw [e35]; exact (xr0_7 k28)
    refine lt_pred (fun s38 e38 => ?_)
    have k38 : XOK s38 := by rw [e38]; exact xst_0_7 k28 (rg_w rl_0 (by decide) (by decide))
    have q38 : HBm B 0 s38 := by rw [e38]; exact HBm.same q28 rfl rfl rfl
    have y8_38 : rg 1 1 (s38 0 8) := by rw [e38]; exact (show rg 1 1 (s28 0 8) from y8_28)
    refine jn_pred (fun z42 => rg 1 4 z42.1 ∧ HBm B 8000 z42.2 ∧ XOK z42.2) (fun z42 h42 => ?_) ?_
    · refine lt_pred (fun z83 e83 => ?_)
      have k83 : XOK z83.2 ∧ rg 1 8100 z83.1 := by rw [e83]; exact ok_x2_pass z42.2 (z42.1 + (z42.2 0 1)) h42.2.2 h42.2.1 (by omega) (by omega) (rg_w (rg_add h42.1 h42.2.1.2 (by decide) (by decide)) (by decide) (by decide))
      have q83 : HBm (B + z83.1.toInt) 8000 z83.2 := by subst e83; exact HBm.w (hmr_x2_pass z42.2 (z42.1 + (z42.2 0 1)) h42.2.2 h42.2.1 (by omega) (by omega) (rg_w (rg_add h42.1 h42.2.1.2 (by decide) (by decide)) (by decide) (by decide))) (by omega) (by omega)
      exact ⟨⟨k83.1, (rg_w k83.2 (by decide) (by decide))⟩, (show HBm (B + (z83.1 : Int32).toInt) 8000 z83.2 from HBm.w q83 (by omega) (by omega))⟩
    · refine ite_pred (fun c42 => ?_) (fun c42 => ?_)
      · refine lt_pred (fun s51 e51 => ?_)
        have k51 : XOK s51 := by rw [e51]; exact ok_x2_entry s38 v23 k38 (rg_lt_lo f23 (c42).1 rl_0)
        have q51 : HBm B 8 s51 := by rw [e51]; exact HBm.w (HBm.kp q38 (kp_x2_entry s38 v23 (ka := s38 0 20) (kb := s38 0 13) ⟨rfl, rfl, q38.2⟩ (by omega))) (by omega) (by omega)
        refine lt_pred (fun s58 e58 => ?_)
        have k58 : XOK s58 := by rw [e58]; exact xst_f0_1 k51
        have q58 : HBm B 0 s58 := by rw [e58]; exact HBm.z1 q51
        exact app_i ⟨(rg_w rl_4 (by decide) (by decide)), (HBm.w q58 (by omega) (by omega)), k58⟩
      · refine ite_pred (fun c68 => ?_) (fun c68 => ?_)
        · refine lt_pred (fun z72 e72 => ?_)
          have k72 : XOK z72.2 ∧ rg 1 4 z72.1 := by rw [e72]; exact ok_x2_instruction s38 k38
          have q72 : HBm B 8000 z72.2 := by rw [e72]; exact HBm.w (HBm.kp q38 (kp_x2_instruction s38 (ka := s38 0 20) (kb := s38 0 13) ⟨rfl, rfl, q38.2⟩ (by omega))) (by omega) (by omega)
          exact app_i ⟨k72.2, (HBm.w q72 (by omega) (by omega)), k72.1⟩
        · exact app_i ⟨(rg_w rl_1 (by decide) (by decide)), (HBm.w q38 (by omega) (by omega)), k38⟩

theorem ok_x2_step (σ : Sg) (ok : XOK σ) {B m : Int} (hk : HBm B m σ) (hm : m ≤ 8000) (hB : B ≤ 4294959189) : (Pri XOK 0 8100) (x2_step σ) := (okh_x2_step σ ok hk hm hB).1
theorem hmr_x2_step (σ : Sg) (ok : XOK σ) {B m : Int} (hk : HBm B m σ) (hm : m ≤ 8000) (hB : B ≤ 4294959189) : HBm (B + (x2_step σ).1.toInt) 8000 (x2_step σ).2 := (okh_x2_step σ ok hk hm hB).2

def m_steppedL : Nat → Sg → Int32 → Int32 → Int32 → Int32 × Sg
  | 0, σ, _, v4, _ => ((σ 0 2) - v4, σ)
  | n + 1, σ, v3, v4, v5 =>
    if v5 < v3 then
      lt (m_passes σ) fun z77 =>
      if z77.1 = 0 then
        (((z77.2 0 2) - v4), z77.2)
      else
        lt ((v5 + 1) : Int32) fun v83 =>
        m_steppedL n z77.2 v3 v4 v83
    else
      (((σ 0 2) - v4), σ)
def MsL (B m : Int) (v5 v3 : Int32) (r : Int32 × Sg) : Prop := XOK r.2 ∧ v5.toInt ≤ r.1.toInt ∧ r.1.toInt ≤ 8100 ∧ (v5.toInt < v3.toInt → 1 ≤ r.1.toInt) ∧ HBm (B + (r.1.toInt - v5.toInt)) m r.2
theorem MsL.mk {B m : Int} {v5 v3 : Int32} {r : Int32 × Sg} (x : Int32) (e : r.1 = x) (a1 : XOK r.2) (a2 : v5.toInt ≤ x.toInt) (a3 : x.toInt ≤ 8100) (a4 : v5.toInt < v3.toInt → 1 ≤ x.toInt) (a5 : HBm (B + (x.toInt - v5.toInt)) m r.2) : MsL B m v5 v3 r := by
  unfold MsL; rw [e]; exact ⟨a1, a2, a3, a4, a5⟩
theorem sub_c (a b : Int32) : (a + b) - a = b := by rw [Int32.add_comm]; exact Int32.add_sub_cancel b a
set_option maxHeartbeats 4000000 in
theorem okh_m_steppedL : ∀ (n : Nat) (σ : Sg) (v3 v4 v5 : Int32) (B m : Int), XOK σ → HBm B m σ → m ≤ 1500000008 → B + n ≤ 4294967290 → rg 1 8100 v3 → rg 0 8100 v5 → v5.toInt ≤ v3.toInt → v3.toInt - v5.toInt < n → σ 0 2 = v4 + v5 → MsL B m v5 v3 (m_steppedL n σ v3 v4 v5) := by
  intro n
  induction n with
  | zero => intro σ v3 v4 v5 B m ok hk hm hB hv3 hv5 hv6 hmz hcy; omega
  | succ n ih =>
    intro σ v3 v4 v5 B m ok hk hm hB hv3 hv5 hv6 hmz hcy
    have hm0 : 0 ≤ m := hk.nn
    rw [m_steppedL]
    refine ite_pred (fun c73 => ?_) (fun c73 => ?_)
    · refine lt_pred (fun z77 e77 => ?_)
      have k77 : XOK z77.2 ∧ rg 0 1 z77.1 := by rw [e77]; exact ok_m_passes σ ok hk (by omega) (by omega)
      have q77 : HBm (B + 1) m z77.2 := by rw [e77]; exact HBm.w (hm_m_passes σ hk (by omega) (by omega) ) (by omega) (by omega)
      refine ite_pred (fun c80 => ?_) (fun c80 => ?_)
      · have h1 := Int32.lt_iff_toInt_lt.mp c73
        have h2 : (v5 + 1).toInt = v5.toInt + 1 := toInt_add' (by show _ ≤ v5.toInt + (1 : Int); have := hv5.1; omega) (by show v5.toInt + (1 : Int) < _; have := hv3.2; omega)
        have h3 := hv3.2
        have h4 := hv5.1
        have hc1 : z77.2 0 2 = v4 + (v5 + 1) := by rw [e77, kc_m_passes σ, hcy, Int32.add_assoc]; rfl
        exact MsL.mk (v5 + 1) (by show (z77.2 0 2) - v4 = v5 + 1; rw [hc1]; exact sub_c _ _) k77.1 (by omega) (by omega) (by omega) (HBm.w q77 (by omega) (Int.le_refl _))
      · refine lt_pred (fun v83 e83 => ?_)
        have f83 : rg 1 8100 v83 := by rw [e83]; exact (rg_add (rg_lt_hi hv5 c73 hv3) rl_1 (by decide) (by decide))
        have h1 := Int32.lt_iff_toInt_lt.mp c73
        have h2 : (v5 + 1).toInt = v5.toInt + 1 := toInt_add' (by show _ ≤ v5.toInt + (1 : Int); have := hv5.1; omega) (by show v5.toInt + (1 : Int) < _; have := hv3.2; omega)
        have h3 := hv3.2
        have h4 := hv5.1
        have hc1 : z77.2 0 2 = v4 + (v5 + 1) := by rw [e77, kc_m_passes σ, hcy, Int32.add_assoc]; rfl
        have e5 : v83 = v5 + 1 := e83
        have r := ih z77.2 v3 v4 v83 (B + 1) m k77.1 q77 hm (by omega) hv3 (by rw [e5]; exact ⟨by omega, by omega⟩) (by rw [e5]; omega) (by rw [e5]; omega) (by rw [e5]; exact hc1)
        rw [e5] at r ⊢
        exact ⟨r.1, by have := r.2.1; omega, r.2.2.1, by have := r.2.1; omega, HBm.w r.2.2.2.2 (by omega) (Int.le_refl _)⟩
    · exact MsL.mk v5 (by show (σ 0 2) - v4 = v5; rw [hcy]; exact sub_c _ _) ok (Int.le_refl _) hv5.2 (fun q => absurd (Int32.lt_iff_toInt_lt.mpr q) c73) (HBm.w hk (by omega) (Int.le_refl _))

def m_stepped (σ : Sg) : Int32 × Sg :=
  lt (sst σ 0 3 ((σ 0 3) + 1)) fun s7 =>
  lt ((m_awaited s7) : Int32) fun v14 =>
  lt ((s7 0 7) : Int32) fun v19 =>
  lt (sst s7 0 7 0) fun s22 =>
  lt ((
    if (¬ (v14 = 0)) ∧ (v19 = 0) then
      lt (m_enter s22 v14) fun s37 =>
      (4, s37)
    else
      if (¬ (v14 = 0)) ∨ ((s22 0 6) = 0) then
        lt (m_instruction s22) fun z57 =>
        (z57.1, z57.2)
      else
        (1, s22)) : Int32 × Sg) fun z28 =>
  lt ((z28.2 0 2) : Int32) fun v65 =>
  m_steppedL (z28.1.toNatClampNeg + 1) z28.2 z28.1 v65 0
set_option maxHeartbeats 4000000 in
theorem okh_m_stepped (σ : Sg) (ok : XOK σ) {B m : Int} (hk : HBm B m σ) (hm : m ≤ 1500000000) (hm8 : 8000 ≤ m) (hB : B ≤ 4294959189) : Prh XOK 1 8100 B (m + 8) (m_stepped σ) := by
  have hm0 : 0 ≤ m := hk.nn
  unfold m_stepped
  refine lt_pred (fun s7 e7 => ?_)
  have k7 : XOK s7 := by rw [e7]; exact xst_f0_3 ok
  have q7 : HBm B m s7 := by rw [e7]; exact HBm.same hk rfl rfl rfl
  refine lt_pred (fun v14 e14 => ?_)
  have f14 : rg 0 8 v14 := by rw [e14]; exact (ok_m_awaited s7 k7)
  refine lt_pred (fun v19 e19 => ?_)
  have f19 : rg 0 1 v19 := by rw [e19]; exact (xr0_7 k7)
  refine lt_pred (fun s22 e22 => ?_)
  have k22 : XOK s22 := by rw [e22]; exact xst_0_7 k7 (rg_w rl_0 (by decide) (by decide))
  have q22 : HBm B m s22 := by rw [e22]; exact HBm.same q7 rfl rfl rfl
  refine jn_pred (fun z28 => rg 1 8004 z28.1 ∧ HBm B (m + 8) z28.2 ∧ XOK z28.2) (fun z28 h28 => ?_) ?_
  · refine lt_pred (fun v65 e65 => ?_)
    have hf := (rg_nI (rg_w (lo2 := 0) ((rg_w h28.1 (by decide) (by decide)) : rg 1 8100 z28.1) (by decide) (Int.le_refl _))).2
    have hf2 := ((rg_w h28.1 (by decide) (by decide)) : rg 1 8100 z28.1).2
    have hf3 := ((rg_w h28.1 (by decide) (by decide)) : rg 1 8100 z28.1).1
    have z0 : (0 : Int32).toInt = 0 := by decide +kernel
    have r := okh_m_steppedL (z28.1.toNatClampNeg + 1) z28.2 z28.1 v65 0 B (m + 8) h28.2.2 h28.2.1 (by omega) (by omega) (rg_w h28.1 (by decide) (by decide)) ⟨by omega, by omega⟩ (by omega) (by omega) (by rw [e65]; simp)
    unfold MsL at r
    rw [z0] at r
    exact (show Prh XOK 1 8100 B (m + 8) (m_steppedL (z28.1.toNatClampNeg + 1) z28.2 z28.1 v65 0) from ⟨⟨r.1, r.2.2.2.1 (by omega), r.2.2.1⟩, HBm.w r.2.2.2.2 (by omega) (by omega)⟩)
  · refine ite_pred (fun c28 => ?_) (fun c28 => ?_)
    · refine lt_pred (fun s37 e37 => ?_)
      have k37 : XOK s37 := by rw [e37]; exact ok_m_enter s22 v14 k22 (rg_ne_lo f14 (c28).1 (by decide +kernel))
      have q37 : HBm B (m + 8) s37 := by rw [e37]; exact HBm.w (HBm.kp q22 (kp_m_enter s22 v14 (ka := s22 0 20) (kb := s22 0 13) ⟨rfl, rfl, q22.2⟩ (by omega))) (by omega) (by omega)
      exact app_i ⟨(rg_w rl_4 (by decide) (by decide)), (HBm.w q37 (by omega) (by omega)), k37⟩
    · refine ite_pred (fun c46 => ?_) (fun c46 => ?_)
      · refine lt_pred (fun z57 e57 => ?_)
        have k57 : XOK z57.2 ∧ rg 1 8004 z57.1 := by rw [e57]; exact ok_m_instruction s22 k22 q22 (by omega) (by omega)
        have q57 : HBm B 8000 z57.2 := by rw [e57]; exact HBm.w (HBm.kp q22 (kp_m_instruction s22 (ka := s22 0 20) (kb := s22 0 13) ⟨rfl, rfl, q22.2⟩ (by omega))) (by omega) (by omega)
        exact app_i ⟨k57.2, (HBm.w q57 (by omega) (by omega)), k57.1⟩
      · exact app_i ⟨(rg_w rl_1 (by decide) (by decide)), (HBm.w q22 (by omega) (by omega)), k22⟩

theorem ok_m_stepped (σ : Sg) (ok : XOK σ) {B m : Int} (hk : HBm B m σ) (hm : m ≤ 1500000000) (hm8 : 8000 ≤ m) (hB : B ≤ 4294959189) : (Pri XOK 1 8100) (m_stepped σ) := (okh_m_stepped σ ok hk hm hm8 hB).1
theorem hmr_m_stepped (σ : Sg) (ok : XOK σ) {B m : Int} (hk : HBm B m σ) (hm : m ≤ 1500000000) (hm8 : 8000 ≤ m) (hB : B ≤ 4294959189) : HBm (B + (m_stepped σ).1.toInt) (m + 8) (m_stepped σ).2 := (okh_m_stepped σ ok hk hm hm8 hB).2
