/-! BOARD: pure functions and their invariant -/
set_option maxRecDepth 100000
def x1_right (σ : Sg) (x0 : Int32) : Sg :=
  σ
set_option maxHeartbeats 4000000 in
theorem ok_x1_right (σ : Sg) (x0 : Int32) (ok : XOK σ) (hx0 : rg 1 1 x0) : XOK (x1_right σ x0) := by
  unfold x1_right
  exact ok

set_option maxHeartbeats 4000000 in
theorem kp_x1_right (σ : Sg) (x0 : Int32) {ka kb : Int32} {m : Int} (hk : Kp ka kb m σ) (hm : m ≤ 1500290000) : Kp ka kb m (x1_right σ x0) := by
  have hm0 : 0 ≤ m := hk.nn
  show Kp ka kb m (x1_right σ x0)
  unfold x1_right
  exact Kp.w hk (by omega)

def x1_there (σ : Sg) (x0 : Int32) : Sg :=
  σ
set_option maxHeartbeats 4000000 in
theorem ok_x1_there (σ : Sg) (x0 : Int32) (ok : XOK σ) (hx0 : rg 1 1 x0) : XOK (x1_there σ x0) := by
  unfold x1_there
  exact ok

set_option maxHeartbeats 4000000 in
theorem kp_x1_there (σ : Sg) (x0 : Int32) {ka kb : Int32} {m : Int} (hk : Kp ka kb m σ) (hm : m ≤ 1500290000) : Kp ka kb m (x1_there σ x0) := by
  have hm0 : 0 ≤ m := hk.nn
  show Kp ka kb m (x1_there σ x0)
  unfold x1_there
  exact Kp.w hk (by omega)

def Pos1 (r : Int32 × Sg) : Prop := 1 ≤ r.1.toInt
set_option maxHeartbeats 4000000 in
theorem x2_step_pos (σ : Sg) (ok : XOK σ) {B m : Int} (hk : HBm B m σ) (hm : m ≤ 8000) (hB : B ≤ 4294959189) (c4 : ¬ σ 0 8 = 0) : Pos1 (x2_step σ) := by
  have z0 : (0 : Int32).toInt = 0 := by decide +kernel
  have hm0 : 0 ≤ m := hk.nn
  unfold x2_step
  rw [if_neg c4]
  refine lt_pred (fun s16 e16 => ?_)
  have k16 : XOK s16 := by rw [e16]; exact xst_f0_3 ok
  have q16 : HBm B m s16 := by rw [e16]; exact HBm.same hk rfl rfl rfl
  have y8_16 : rg 1 1 (s16 0 8) := by rw [e16]; exact (show rg 1 1 (σ 0 8) from (rg_ne_lo (xr0_8 ok) c4 (by decide +kernel)))
  refine lt_pred (fun v23 e23 => ?_)
  have f23 : rg 0 8 v23 := by rw [e23]; exact (ok_x2_waits s16 k16)
  refine lt_pred (fun s28 e28 => ?_)
  have k28 : XOK s28 := by rw [e28]; exact xst_f0_1 k16
  have q28 : HBm B 0 s28 := by rw [e28]; exact HBm.z1 q16
  have y8_28 : rg 1 1 (s28 0 8) := by rw [e28]; exact (show rg 1 1 (s16 0 8) from y8_16)
  refine lt_pred (fun v35 e35 => ?_)
  have f35 : rg 0 1 v35 := by rw [e35]; exact (xr0_7 k28)
  refine lt_pred (fun s38 e38 => ?_)
  have k38 : XOK s38 := by rw [e38]; exact xst_0_7 k28 (rg_w rl_0 (by decide) (by decide))
  have q38 : HBm B 0 s38 := by rw [e38]; exact HBm.same q28 rfl rfl rfl
  have y8_38 : rg 1 1 (s38 0 8) := by rw [e38]; exact (show rg 1 1 (s28 0 8) from y8_28)
  refine jn_pred (fun z42 => rg 1 4 z42.1 ∧ HBm B 8000 z42.2 ∧ XOK z42.2) (fun z42 h42 => ?_) ?_
  · refine lt_pred (fun z83 e83 => ?_)
    have k83 : XOK z83.2 ∧ rg 1 8100 z83.1 := by rw [e83]; exact ok_x2_pass z42.2 (z42.1 + (z42.2 0 1)) h42.2.2 h42.2.1 (by omega) (by omega) (rg_w (rg_add h42.1 h42.2.1.2 (by decide) (by decide)) (by decide) (by decide))
    have q83 : HBm (B + z83.1.toInt) 8000 z83.2 := by subst e83; exact HBm.w (hmr_x2_pass z42.2 (z42.1 + (z42.2 0 1)) h42.2.2 h42.2.1 (by omega) (by omega) (rg_w (rg_add h42.1 h42.2.1.2 (by decide) (by decide)) (by decide) (by decide))) (by omega) (by omega)
    exact k83.2.1
  · refine ite_pred (fun c42 => ?_) (fun c42 => ?_)
    · refine lt_pred (fun s51 e51 => ?_)
      have k51 : XOK s51 := by rw [e51]; exact ok_x2_entry s38 v23 k38 (rg_lt_lo f23 (c42).1 rl_0)
      have q51 : HBm B 8 s51 := by rw [e51]; exact HBm.w (HBm.kp q38 (kp_x2_entry s38 v23 (ka := s38 0 20) (kb := s38 0 13) ⟨rfl, rfl, q38.2⟩ (by omega))) (by omega) (by omega)
      refine lt_pred (fun s58 e58 => ?_)
      have k58 : XOK s58 := by rw [e58]; exact xst_f0_1 k51
      have q58 : HBm B 0 s58 := by rw [e58]; exact HBm.z1 q51
      exact app_i ⟨(rg_w rl_4 (by decide) (by decide)), (HBm.w q58 (by omega) (by omega)), k58⟩
    · refine ite_pred (fun c68 => ?_) (fun c68 => ?_)
      · refine lt_pred (fun z72 e72 => ?_)
        have k72 : XOK z72.2 ∧ rg 1 4 z72.1 := by rw [e72]; exact ok_x2_instruction s38 k38
        have q72 : HBm B 8000 z72.2 := by rw [e72]; exact HBm.w (HBm.kp q38 (kp_x2_instruction s38 (ka := s38 0 20) (kb := s38 0 13) ⟨rfl, rfl, q38.2⟩ (by omega))) (by omega) (by omega)
        exact app_i ⟨k72.2, (HBm.w q72 (by omega) (by omega)), k72.1⟩
      · exact app_i ⟨(rg_w rl_1 (by decide) (by decide)), (HBm.w q38 (by omega) (by omega)), k38⟩
def x1_runL : Nat → Sg → Int32 → Int32 → Int32 → Int32 × Sg
  | 0, σ, _, v2, _ => (v2, σ)
  | n + 1, σ, x1, v2, v3 =>
    if (¬ (v3 < x1)) ∨ ((σ 0 8) = 0) then
      (v2, σ)
    else
      lt (x2_step σ) fun z44 =>
      lt ((v2 + z44.1) : Int32) fun v48 =>
      lt ((v3 + 1) : Int32) fun v49 =>
      x1_runL n z44.2 x1 v48 v49
def x1_runQ (B m : Int) (r : Int32 × Sg) : Prop := XOK r.2 ∧ HBm B m r.2
set_option maxHeartbeats 4000000 in
theorem okh_x1_runL (x1 : Int32) (hx1 : rg 1 5000 x1) : ∀ (n : Nat) (σ : Sg) (v2 v3 : Int32) (B m : Int), XOK σ → HBm B m σ → m = 8000 → B + 8100 * n ≤ 4294959189 → rg 0 5000 v3 → v3.toInt ≤ x1.toInt → x1.toInt - v3.toInt < n → x1_runQ (B + 8100 * n) 8000 (x1_runL n σ x1 v2 v3) := by
  intro n
  induction n with
  | zero => intro σ v2 v3 B m ok hk hm hB hv hvx hmz; omega
  | succ n ih =>
    intro σ v2 v3 B m ok hk hm hB hv hvx hmz
    have hm0 : 0 ≤ m := hk.nn
    rw [x1_runL]
    refine ite_pred (fun c26 => ?_) (fun c26 => ?_)
    · exact (show XOK σ ∧ HBm _ _ σ from ⟨ok, HBm.w hk (by omega) (by omega)⟩)
    · refine lt_pred (fun z44 e44 => ?_)
      have k44 : XOK z44.2 ∧ rg 0 8100 z44.1 := by rw [e44]; exact ok_x2_step σ ok hk (by omega) (by omega)
      have q44 : HBm (B + z44.1.toInt) 8000 z44.2 := by subst e44; exact HBm.w (hmr_x2_step σ ok hk (by omega) (by omega)) (by omega) (by omega)
      refine lt_pred (fun v48 e48 => ?_)
      refine lt_pred (fun v49 e49 => ?_)
      have f49 : rg 1 5000 v49 := by rw [e49]; exact (rg_add (rg_lt_hi hv (Decidable.of_not_not (fun w5 => c26 (Or.inl w5))) hx1) rl_1 (by decide) (by decide))
      have h1 := Int32.lt_iff_toInt_lt.mp (Decidable.of_not_not (fun q => c26 (Or.inl q)))
      have hx2 := hx1.2
      have hz2 := k44.2.2
      have hz0 := k44.2.1
      have h4 := hv.1
      have h2 : (v3 + 1).toInt = v3.toInt + 1 := toInt_add' (by show _ ≤ v3.toInt + (1 : Int); omega) (by show v3.toInt + (1 : Int) < _; omega)
      have e3 : v49 = v3 + 1 := e49
      have r := ih z44.2 v48 v49 (B + z44.1.toInt) 8000 k44.1 q44 rfl (by omega) (by rw [e3]; exact ⟨by omega, by omega⟩) (by rw [e3]; omega) (by rw [e3]; omega)
      exact ⟨r.1, HBm.w r.2 (by omega) (by omega)⟩

def x1_run (σ : Sg) (x1 : Int32) : Int32 × Sg :=
  lt (x1_right σ 1) fun s17 =>
  x1_runL (x1.toNatClampNeg + 1) s17 x1 0 0
set_option maxHeartbeats 4000000 in
theorem okh_x1_run (σ : Sg) (x1 : Int32) (ok : XOK σ) {B m : Int} (hk : HBm B m σ) (hm : m = 8000) (hB : B ≤ 4253967290) (hx1 : rg 1 5000 x1) : x1_runQ (B + 40600000) (m + 1700000) (x1_run σ x1) := by
  have hm0 : 0 ≤ m := hk.nn
  unfold x1_run
  refine lt_pred (fun s17 e17 => ?_)
  have k17 : XOK s17 := by rw [e17]; exact ok_x1_right σ 1 ok rl_1
  have q17 : HBm B m s17 := by rw [e17]; exact HBm.w (HBm.kp hk (kp_x1_right σ 1 (ka := σ 0 20) (kb := σ 0 13) ⟨rfl, rfl, hk.2⟩ (by omega))) (by omega) (by omega)
  have hx1 : rg 1 5000 x1 := hx1
  have hf := (rg_nI (rg_w (lo2 := 0) hx1 (by decide) (Int.le_refl _))).2
  have hf2 := hx1.2
  have hf3 := hx1.1
  have z0 : (0 : Int32).toInt = 0 := by decide +kernel
  have r := okh_x1_runL x1 hx1 (x1.toNatClampNeg + 1) s17 0 0 B m k17 q17 (by omega) (by omega) ⟨by omega, by omega⟩ (by omega) (by omega)
  exact (show x1_runQ (B + 40600000) (m + 1700000) _ from ⟨r.1, HBm.w r.2 (by omega) (by omega)⟩)

def x1_passL : Nat → Sg → Int32 → Int32 → Int32 × Sg
  | 0, σ, _, v2 => (v2, σ)
  | n + 1, σ, x1, v2 =>
    if (¬ (v2 < x1)) ∨ ((σ 0 8) = 0) then
      (v2, σ)
    else
      lt (x2_step σ) fun z41 =>
      lt ((v2 + z41.1) : Int32) fun v45 =>
      x1_passL n z41.2 x1 v45
def x1_passQ (B m : Int) (r : Int32 × Sg) : Prop := XOK r.2 ∧ HBm B m r.2
set_option maxHeartbeats 4000000 in
theorem okh_x1_passL (x1 : Int32) (hx1 : rg 1 200000 x1) : ∀ (n : Nat) (σ : Sg) (v2 : Int32) (B m : Int), XOK σ → HBm B m σ → m = 8000 → B + (x1.toInt - v2.toInt) ≤ 4294950290 → rg 0 208100 v2 → v2.toInt ≤ x1.toInt + 8100 → (0 < n ∧ x1.toInt - v2.toInt < n) → x1_passQ (B + (x1.toInt - v2.toInt) + 8100) 8000 (x1_passL n σ x1 v2) := by
  intro n
  induction n with
  | zero => intro σ v2 B m ok hk hm hB hv hvx hmz; omega
  | succ n ih =>
    intro σ v2 B m ok hk hm hB hv hvx hmz
    have hm0 : 0 ≤ m := hk.nn
    rw [x1_passL]
    refine ite_pred (fun c23 => ?_) (fun c23 => ?_)
    · exact (show XOK σ ∧ HBm _ _ σ from ⟨ok, HBm.w hk (by omega) (by omega)⟩)
    · refine lt_pred (fun z41 e41 => ?_)
      have k41 : XOK z41.2 ∧ rg 0 8100 z41.1 := by rw [e41]; exact ok_x2_step σ ok hk (by omega) (by omega)
      have q41 : HBm (B + z41.1.toInt) 8000 z41.2 := by subst e41; exact HBm.w (hmr_x2_step σ ok hk (by omega) (by omega)) (by omega) (by omega)
      refine lt_pred (fun v45 e45 => ?_)
      have f45 : rg 0 208099 v45 := by rw [e45]; exact (rg_add (rg_lt_hi hv (Decidable.of_not_not (fun w5 => c23 (Or.inl w5))) hx1) k41.2 (by decide) (by decide))
      have h1 := Int32.lt_iff_toInt_lt.mp (Decidable.of_not_not (fun q => c23 (Or.inl q)))
      have hx2 := hx1.2
      have hz2 := k41.2.2
      have hz0 := k41.2.1
      have h4 := hv.1
      have hz1 : 1 ≤ z41.1.toInt := by rw [e41]; exact x2_step_pos σ ok hk (by omega) (by omega) (fun q => c23 (Or.inr q))
      have h2 : (v2 + z41.1).toInt = v2.toInt + z41.1.toInt := toInt_add' (by omega) (by omega)
      have e2 : v45 = v2 + z41.1 := e45
      have r := ih z41.2 v45 (B + z41.1.toInt) 8000 k41.1 q41 rfl (by rw [e2]; omega) (by rw [e2]; exact ⟨by omega, by omega⟩) (by rw [e2]; omega) (by rw [e2]; omega)
      exact ⟨r.1, HBm.w r.2 (by rw [e2]; omega) (by omega)⟩

def x1_pass (σ : Sg) (x1 : Int32) : Int32 × Sg :=
  lt (x1_right σ 1) fun s16 =>
  x1_passL (x1.toNatClampNeg + 1) s16 x1 0
set_option maxHeartbeats 4000000 in
theorem okh_x1_pass (σ : Sg) (x1 : Int32) (ok : XOK σ) {B m : Int} (hk : HBm B m σ) (hm : m = 8000) (hB : B ≤ 4253967290) (hx1 : rg 1 200000 x1) : x1_passQ (B + 40600000) (m + 1700000) (x1_pass σ x1) := by
  have hm0 : 0 ≤ m := hk.nn
  unfold x1_pass
  refine lt_pred (fun s16 e16 => ?_)
  have k16 : XOK s16 := by rw [e16]; exact ok_x1_right σ 1 ok rl_1
  have q16 : HBm B m s16 := by rw [e16]; exact HBm.w (HBm.kp hk (kp_x1_right σ 1 (ka := σ 0 20) (kb := σ 0 13) ⟨rfl, rfl, hk.2⟩ (by omega))) (by omega) (by omega)
  have hx1 : rg 1 200000 x1 := hx1
  have hf := (rg_nI (rg_w (lo2 := 0) hx1 (by decide) (Int.le_refl _))).2
  have hf2 := hx1.2
  have hf3 := hx1.1
  have z0 : (0 : Int32).toInt = 0 := by decide +kernel
  have r := okh_x1_passL x1 hx1 (x1.toNatClampNeg + 1) s16 0 B m k16 q16 (by omega) (by omega) ⟨by omega, by omega⟩ (by omega) (by omega)
  exact (show x1_passQ (B + 40600000) (m + 1700000) _ from ⟨r.1, HBm.w r.2 (by omega) (by omega)⟩)

def x1_host (σ : Sg) (x1 : Int32) : Int32 × Sg :=
  lt (x6_add σ x1) fun z8 =>
  (z8.1, z8.2)
set_option maxHeartbeats 4000000 in
theorem ok_x1_host (σ : Sg) (x1 : Int32) (ok : XOK σ) : (Pri XOK (-1) 300) (x1_host σ x1) := by
  unfold x1_host
  refine lt_pred (fun z8 e8 => ?_)
  have k8 : XOK z8.2 ∧ rg (-1) 300 z8.1 := by rw [e8]; exact ok_x6_add σ x1 ok
  exact ⟨k8.1, k8.2⟩

set_option maxHeartbeats 4000000 in
theorem kp_x1_host (σ : Sg) (x1 : Int32) {ka kb : Int32} {m : Int} (hk : Kp ka kb m σ) (hm : m ≤ 1500280000) : Kp ka kb m (x1_host σ x1).2 := by
  have hm0 : 0 ≤ m := hk.nn
  show Kpi ka kb m (x1_host σ x1)
  unfold x1_host
  refine lt_pred (fun z8 e8 => ?_)
  have q8 : Kp ka kb m z8.2 := by rw [e8]; exact Kp.w (kp_x6_add σ x1 hk (by omega)) (by omega)
  exact Kp.w q8 (by omega)

def x1_sent (σ : Sg) : Int32 :=
  (σ 0 20)
def x1_word (σ : Sg) (x1 : Int32) : Int32 × Sg :=
  lt (x1_there σ 1) fun s16 =>
  ((s16 2 (x1).toNatClampNeg), s16)
set_option maxHeartbeats 4000000 in
theorem ok_x1_word (σ : Sg) (x1 : Int32) (ok : XOK σ) (hx1 : rg 0 2047 x1) : (Pri XOK 0 65535) (x1_word σ x1) := by
  unfold x1_word
  refine lt_pred (fun s16 e16 => ?_)
  have k16 : XOK s16 := by rw [e16]; exact ok_x1_there σ 1 ok rl_1
  exact ⟨k16, (xr_2 k16 _)⟩

set_option maxHeartbeats 4000000 in
theorem kp_x1_word (σ : Sg) (x1 : Int32) {ka kb : Int32} {m : Int} (hk : Kp ka kb m σ) (hm : m ≤ 1500280000) : Kp ka kb m (x1_word σ x1).2 := by
  have hm0 : 0 ≤ m := hk.nn
  show Kpi ka kb m (x1_word σ x1)
  unfold x1_word
  refine lt_pred (fun s16 e16 => ?_)
  have q16 : Kp ka kb m s16 := by rw [e16]; exact Kp.w (kp_x1_there σ 1 hk (by omega)) (by omega)
  exact Kp.w q16 (by omega)

def x1_data (σ : Sg) (x1 : Int32) : Int32 × Sg :=
  lt (x1_there σ 1) fun s16 =>
  lt ((
    if x1 = 198 then
      if 0 < (s16 0 18) then
        ((s16 0 16), s16)
      else
        (0, s16)
    else
      lt (x2_load s16 x1) fun z61 =>
      (z61.1, z61.2)) : Int32 × Sg) fun z23 =>
  (z23.1, z23.2)
set_option maxHeartbeats 4000000 in
theorem ok_x1_data (σ : Sg) (x1 : Int32) (ok : XOK σ) (hx1 : rg 0 1279 x1) : (Pri XOK 0 255) (x1_data σ x1) := by
  unfold x1_data
  refine lt_pred (fun s16 e16 => ?_)
  have k16 : XOK s16 := by rw [e16]; exact ok_x1_there σ 1 ok rl_1
  refine jn_pred (fun z23 => rg 0 255 z23.1 ∧ XOK z23.2) (fun z23 h23 => ?_) ?_
  · exact ⟨h23.2, h23.1⟩
  · refine ite_pred (fun c23 => ?_) (fun c23 => ?_)
    · refine ite_pred (fun c36 => ?_) (fun c36 => ?_)
      · exact app_i ⟨(xr0_16 k16), k16⟩
      · exact app_i ⟨(rg_w rl_0 (by decide) (by decide)), k16⟩
    · refine lt_pred (fun z61 e61 => ?_)
      have k61 : XOK z61.2 ∧ rg 0 255 z61.1 := by rw [e61]; exact ok_x2_load s16 x1 k16 (rg_w hx1 (by decide) (by decide))
      exact app_i ⟨k61.2, k61.1⟩

set_option maxHeartbeats 4000000 in
theorem kp_x1_data (σ : Sg) (x1 : Int32) {ka kb : Int32} {m : Int} (hk : Kp ka kb m σ) (hm : m ≤ 1500260000) : Kp ka kb m (x1_data σ x1).2 := by
  have hm0 : 0 ≤ m := hk.nn
  show Kpi ka kb m (x1_data σ x1)
  unfold x1_data
  refine lt_pred (fun s16 e16 => ?_)
  have q16 : Kp ka kb m s16 := by rw [e16]; exact Kp.w (kp_x1_there σ 1 hk (by omega)) (by omega)
  refine jn_pred (fun z23 => Kp ka kb m z23.2) (fun z23 h23 => ?_) ?_
  · exact Kp.w h23 (by omega)
  · refine ite_pred (fun c23 => ?_) (fun c23 => ?_)
    · refine ite_pred (fun c36 => ?_) (fun c36 => ?_)
      · exact app_i (Kp.w q16 (by omega))
      · exact app_i (Kp.w q16 (by omega))
    · refine lt_pred (fun z61 e61 => ?_)
      have q61 : Kp ka kb m z61.2 := by rw [e61]; exact Kp.w (kp_x2_load s16 x1 q16 (by omega)) (by omega)
      exact app_i (Kp.w q61 (by omega))

def x1_eeprom (σ : Sg) (x1 : Int32) : Int32 × Sg :=
  lt (x1_there σ 1) fun s16 =>
  ((s16 3 (x1).toNatClampNeg), s16)
set_option maxHeartbeats 4000000 in
theorem ok_x1_eeprom (σ : Sg) (x1 : Int32) (ok : XOK σ) (hx1 : rg 0 255 x1) : (Pri XOK 0 255) (x1_eeprom σ x1) := by
  unfold x1_eeprom
  refine lt_pred (fun s16 e16 => ?_)
  have k16 : XOK s16 := by rw [e16]; exact ok_x1_there σ 1 ok rl_1
  exact ⟨k16, (xr_3 k16 _)⟩

set_option maxHeartbeats 4000000 in
theorem kp_x1_eeprom (σ : Sg) (x1 : Int32) {ka kb : Int32} {m : Int} (hk : Kp ka kb m σ) (hm : m ≤ 1500280000) : Kp ka kb m (x1_eeprom σ x1).2 := by
  have hm0 : 0 ≤ m := hk.nn
  show Kpi ka kb m (x1_eeprom σ x1)
  unfold x1_eeprom
  refine lt_pred (fun s16 e16 => ?_)
  have q16 : Kp ka kb m s16 := by rw [e16]; exact Kp.w (kp_x1_there σ 1 hk (by omega)) (by omega)
  exact Kp.w q16 (by omega)

def x1_pins (σ : Sg) (x1 : Int32) : Int32 × Sg :=
  lt ((σ 0 9) : Int32) fun v10 =>
  lt (sst σ 0 9 (x1 &&& 255)) fun s23 =>
  (v10, s23)
set_option maxHeartbeats 4000000 in
theorem ok_x1_pins (σ : Sg) (x1 : Int32) (ok : XOK σ) : (Prt XOK) (x1_pins σ x1) := by
  unfold x1_pins
  refine lt_pred (fun v10 e10 => ?_)
  refine lt_pred (fun s23 e23 => ?_)
  have k23 : XOK s23 := by rw [e23]; exact xst_f0_9 ok
  exact ⟨k23, trivial⟩

set_option maxHeartbeats 4000000 in
theorem kp_x1_pins (σ : Sg) (x1 : Int32) {ka kb : Int32} {m : Int} (hk : Kp ka kb m σ) (hm : m ≤ 1500290000) : Kp ka kb m (x1_pins σ x1).2 := by
  have hm0 : 0 ≤ m := hk.nn
  show Kpi ka kb m (x1_pins σ x1)
  unfold x1_pins
  refine lt_pred (fun v10 e10 => ?_)
  refine lt_pred (fun s23 e23 => ?_)
  have q23 : Kp ka kb m s23 := by rw [e23]; exact Kp.same hk rfl rfl rfl
  exact Kp.w q23 (by omega)

def x1_fuses (σ : Sg) (x1 : Int32) : Int32 × Sg :=
  lt (((σ 0 28) ||| ((σ 0 29) <<< (4 : Int32))) : Int32) fun v23 =>
  lt (sst σ 0 28 (x1 &&& 15)) fun s35 =>
  lt (sst s35 0 29 ((x1 >>> (4 : Int32)) &&& 1)) fun s50 =>
  (v23, s50)
set_option maxHeartbeats 4000000 in
theorem ok_x1_fuses (σ : Sg) (x1 : Int32) (ok : XOK σ) : (Pri XOK 0 31) (x1_fuses σ x1) := by
  unfold x1_fuses
  refine lt_pred (fun v23 e23 => ?_)
  have f23 : rg 0 31 v23 := by rw [e23]; exact (rg_or 5 (xr0_28 ok) (rg_shl 4 (by decide +kernel) (xr0_29 ok) (by decide)) (by decide) (by decide) (by decide))
  refine lt_pred (fun s35 e35 => ?_)
  have k35 : XOK s35 := by rw [e35]; exact xst_0_28 ok (rg_and_r (rg_w (lo2 := 0) rl_15 (by decide) (Int.le_refl _)))
  refine lt_pred (fun s50 e50 => ?_)
  have k50 : XOK s50 := by rw [e50]; exact xst_0_29 k35 (rg_and_r (rg_w (lo2 := 0) rl_1 (by decide) (Int.le_refl _)))
  exact ⟨k50, f23⟩

set_option maxHeartbeats 4000000 in
theorem kp_x1_fuses (σ : Sg) (x1 : Int32) {ka kb : Int32} {m : Int} (hk : Kp ka kb m σ) (hm : m ≤ 1500290000) : Kp ka kb m (x1_fuses σ x1).2 := by
  have hm0 : 0 ≤ m := hk.nn
  show Kpi ka kb m (x1_fuses σ x1)
  unfold x1_fuses
  refine lt_pred (fun v23 e23 => ?_)
  refine lt_pred (fun s35 e35 => ?_)
  have q35 : Kp ka kb m s35 := by rw [e35]; exact Kp.same hk rfl rfl rfl
  refine lt_pred (fun s50 e50 => ?_)
  have q50 : Kp ka kb m s50 := by rw [e50]; exact Kp.same q35 rfl rfl rfl
  exact Kp.w q50 (by omega)

def x1_start (σ : Sg) (x1 : Int32) : Sg :=
  lt (x1_there σ 1) fun s16 =>
  lt (sst s16 0 0 x1) fun s24 =>
  lt (sst s24 0 6 0) fun s32 =>
  s32
set_option maxHeartbeats 4000000 in
theorem ok_x1_start (σ : Sg) (x1 : Int32) (ok : XOK σ) (hx1 : rg 0 2047 x1) : XOK (x1_start σ x1) := by
  unfold x1_start
  refine lt_pred (fun s16 e16 => ?_)
  have k16 : XOK s16 := by rw [e16]; exact ok_x1_there σ 1 ok rl_1
  refine lt_pred (fun s24 e24 => ?_)
  have k24 : XOK s24 := by rw [e24]; exact xst_0_0 k16 hx1
  refine lt_pred (fun s32 e32 => ?_)
  have k32 : XOK s32 := by rw [e32]; exact xst_0_6 k24 (rg_w rl_0 (by decide) (by decide))
  exact k32

set_option maxHeartbeats 4000000 in
theorem kp_x1_start (σ : Sg) (x1 : Int32) {ka kb : Int32} {m : Int} (hk : Kp ka kb m σ) (hm : m ≤ 1500280000) : Kp ka kb m (x1_start σ x1) := by
  have hm0 : 0 ≤ m := hk.nn
  show Kp ka kb m (x1_start σ x1)
  unfold x1_start
  refine lt_pred (fun s16 e16 => ?_)
  have q16 : Kp ka kb m s16 := by rw [e16]; exact Kp.w (kp_x1_there σ 1 hk (by omega)) (by omega)
  refine lt_pred (fun s24 e24 => ?_)
  have q24 : Kp ka kb m s24 := by rw [e24]; exact Kp.same q16 rfl rfl rfl
  refine lt_pred (fun s32 e32 => ?_)
  have q32 : Kp ka kb m s32 := by rw [e32]; exact Kp.same q24 rfl rfl rfl
  exact Kp.w q32 (by omega)

def x1_reset (σ : Sg) : Sg :=
  lt ((
    if (σ 0 8) = 0 then
      σ
    else
      lt (x2_reset σ 1) fun s15 =>
      s15) : Sg) fun z7 =>
  z7
set_option maxHeartbeats 4000000 in
theorem ok_x1_reset (σ : Sg) (ok : XOK σ) : XOK (x1_reset σ) := by
  unfold x1_reset
  refine jn_pred (fun z7 => XOK z7) (fun z7 h7 => ?_) ?_
  · exact h7
  · refine ite_pred (fun c7 => ?_) (fun c7 => ?_)
    · exact app_i ok
    · refine lt_pred (fun s15 e15 => ?_)
      have k15 : XOK s15 := by rw [e15]; exact ok_x2_reset σ 1 ok (rg_w rl_1 (by decide) (by decide))
      exact app_i k15

set_option maxHeartbeats 4000000 in
theorem hm_x1_reset (σ : Sg) {B m : Int} (hk : HBm B m σ) (hm : m ≤ 1500260000) : HBm B m (x1_reset σ) := by
  have hm0 : 0 ≤ m := hk.nn
  show HBm B m (x1_reset σ)
  unfold x1_reset
  refine jn_pred (fun z7 => HBm B m z7) (fun z7 h7 => ?_) ?_
  · exact HBm.w h7 (by omega) (by omega)
  · refine ite_pred (fun c7 => ?_) (fun c7 => ?_)
    · exact app_i (HBm.w hk (by omega) (by omega))
    · refine lt_pred (fun s15 e15 => ?_)
      have q15 : HBm B m s15 := by rw [e15]; exact HBm.w (hm_x2_reset σ 1 hk (by omega) ) (by omega) (by omega)
      exact app_i (HBm.w q15 (by omega) (by omega))

def x1_power (σ : Sg) (x1 : Int32) : Int32 × Sg :=
  lt ((σ 0 8) : Int32) fun v7 =>
  lt (sst σ 0 8 x1) fun s13 =>
  lt ((
    if (x1 = 0) ∨ (¬ (v7 = 0)) then
      s13
    else
      lt (x2_reset s13 0) fun s29 =>
      s29) : Sg) fun z17 =>
  (v7, z17)
set_option maxHeartbeats 4000000 in
theorem ok_x1_power (σ : Sg) (x1 : Int32) (ok : XOK σ) (hx1 : rg 0 1 x1) : (Pri XOK 0 1) (x1_power σ x1) := by
  unfold x1_power
  refine lt_pred (fun v7 e7 => ?_)
  have f7 : rg 0 1 v7 := by rw [e7]; exact (xr0_8 ok)
  refine lt_pred (fun s13 e13 => ?_)
  have k13 : XOK s13 := by rw [e13]; exact xst_0_8 ok hx1
  refine jn_pred (fun z17 => XOK z17) (fun z17 h17 => ?_) ?_
  · exact ⟨h17, f7⟩
  · refine ite_pred (fun c17 => ?_) (fun c17 => ?_)
    · exact app_i k13
    · refine lt_pred (fun s29 e29 => ?_)
      have k29 : XOK s29 := by rw [e29]; exact ok_x2_reset s13 0 k13 (rg_w rl_0 (by decide) (by decide))
      exact app_i k29

set_option maxHeartbeats 4000000 in
theorem hm_x1_power (σ : Sg) (x1 : Int32) {B m : Int} (hk : HBm B m σ) (hm : m ≤ 1500260000) : HBm B m (x1_power σ x1).2 := by
  have hm0 : 0 ≤ m := hk.nn
  show HBmi B m (x1_power σ x1)
  unfold x1_power
  refine lt_pred (fun v7 e7 => ?_)
  refine lt_pred (fun s13 e13 => ?_)
  have q13 : HBm B m s13 := by rw [e13]; exact HBm.same hk rfl rfl rfl
  refine jn_pred (fun z17 => HBm B m z17) (fun z17 h17 => ?_) ?_
  · exact HBm.w h17 (by omega) (by omega)
  · refine ite_pred (fun c17 => ?_) (fun c17 => ?_)
    · exact app_i (HBm.w q13 (by omega) (by omega))
    · refine lt_pred (fun s29 e29 => ?_)
      have q29 : HBm B m s29 := by rw [e29]; exact HBm.w (hm_x2_reset s13 0 q13 (by omega) ) (by omega) (by omega)
      exact app_i (HBm.w q29 (by omega) (by omega))

def x1_got (σ : Sg) (x1 : Int32) : Int32 :=
  (σ 4 (x1).toNatClampNeg)
def x1_put (σ : Sg) (x1 : Int32) (x2 : Int32) : Sg :=
  lt ((
    1) : Int32) fun z1 =>
  lt (x1_there σ z1) fun s41 =>
  lt (sst s41 1 (x1).toNatClampNeg (x2 &&& 255)) fun s57 =>
  s57
set_option maxHeartbeats 4000000 in
theorem ok_x1_put (σ : Sg) (x1 : Int32) (x2 : Int32) (ok : XOK σ) (hP : ¬ (((x1 < 0) ∨ (¬ (x1 < 32))) ∧ (((x1 < 93) ∨ (95 < x1)) ∧ ((x1 < 256) ∨ (¬ (x1 < 1280)))))) : XOK (x1_put σ x1 x2) := by
  unfold x1_put
  refine jn_pred (fun z1 => rg 1 1 z1) (fun z1 h1 => ?_) ?_
  · refine lt_pred (fun s41 e41 => ?_)
    have k41 : XOK s41 := by rw [e41]; exact ok_x1_there σ z1 ok h1
    refine lt_pred (fun s57 e57 => ?_)
    have k57 : XOK s57 := by rw [e57]; exact xst_1 k41 (rg_and_r (rg_w (lo2 := 0) rl_255 (by decide) (Int.le_refl _)))
    exact k57
  · exact app_i rl_1

set_option maxHeartbeats 4000000 in
theorem kp_x1_put (σ : Sg) (x1 : Int32) (x2 : Int32) {ka kb : Int32} {m : Int} (hk : Kp ka kb m σ) (hm : m ≤ 1500280000) : Kp ka kb m (x1_put σ x1 x2) := by
  have hm0 : 0 ≤ m := hk.nn
  show Kp ka kb m (x1_put σ x1 x2)
  unfold x1_put
  refine jn_pred (fun z1 => True) (fun z1 h1 => ?_) ?_
  · refine lt_pred (fun s41 e41 => ?_)
    have q41 : Kp ka kb m s41 := by rw [e41]; exact Kp.w (kp_x1_there σ z1 hk (by omega)) (by omega)
    refine lt_pred (fun s57 e57 => ?_)
    have q57 : Kp ka kb m s57 := by rw [e57]; exact Kp.same q41 rfl rfl rfl
    exact Kp.w q57 (by omega)
  · exact app_i trivial

def x1_about (σ : Sg) (x1 : Int32) : Int32 :=
  if x1 = 0 then
    (σ 0 0)
  else
    if x1 = 1 then
      (x2_stack σ)
    else
      if x1 = 2 then
        lt ((
          if (σ 0 6) = 0 then
            0
          else
            1) : Int32) fun z127 =>
        z127
      else
        if x1 = 3 then
          (σ 0 2)
        else
          if x1 = 4 then
            (σ 0 3)
          else
            if x1 = 5 then
              (σ 0 4)
            else
              if x1 = 6 then
                (σ 0 5)
              else
                if x1 = 7 then
                  (σ 0 27)
                else
                  if x1 = 8 then
                    (x10_filled σ)
                  else
                    if x1 = 9 then
                      (σ 0 24)
                    else
                      if x1 = 10 then
                        (σ 0 10)
                      else
                        if x1 = 11 then
                          (σ 0 19)
                        else
                          if x1 = 12 then
                            (σ 0 18)
                          else
                            if x1 = 13 then
                              (σ 0 13)
                            else
                              if x1 = 14 then
                                (σ 0 15)
                              else
                                if x1 = 15 then
                                  (σ 0 22)
                                else
                                  if x1 = 16 then
                                    (σ 0 26)
                                  else
                                    if x1 = 17 then
                                      (σ 0 23)
                                    else
                                      if x1 = 18 then
                                        (σ 0 25)
                                      else
                                        if x1 = 19 then
                                          (σ 0 21)
                                        else
                                          if x1 = 20 then
                                            lt ((
                                              if (σ 0 8) = 0 then
                                                0
                                              else
                                                1) : Int32) fun z318 =>
                                            z318
                                          else
                                            if x1 = 21 then
                                              (x2_waits σ)
                                            else
                                              0
def x1_step (σ : Sg) : Int32 × Sg :=
  lt (x2_step σ) fun z4 =>
  (z4.1, z4.2)
set_option maxHeartbeats 4000000 in
theorem okh_x1_step (σ : Sg) (ok : XOK σ) {B m : Int} (hk : HBm B m σ) (hm : m ≤ 8000) (hB : B ≤ 4294959189) : Prh XOK 0 8100 B 8000 (x1_step σ) := by
  have z0 : (0 : Int32).toInt = 0 := by decide +kernel
  have hm0 : 0 ≤ m := hk.nn
  unfold x1_step
  refine lt_pred (fun z4 e4 => ?_)
  have k4 : XOK z4.2 ∧ rg 0 8100 z4.1 := by rw [e4]; exact ok_x2_step σ ok hk (by omega) (by omega)
  have q4 : HBm (B + z4.1.toInt) 8000 z4.2 := by subst e4; exact HBm.w (hmr_x2_step σ ok hk (by omega) (by omega)) (by omega) (by omega)
  exact ⟨⟨k4.1, k4.2⟩, (show HBm (B + (z4.1 : Int32).toInt) 8000 z4.2 from HBm.w q4 (by omega) (by omega))⟩

theorem ok_x1_step (σ : Sg) (ok : XOK σ) {B m : Int} (hk : HBm B m σ) (hm : m ≤ 8000) (hB : B ≤ 4294959189) : (Pri XOK 0 8100) (x1_step σ) := (okh_x1_step σ ok hk hm hB).1
theorem hmr_x1_step (σ : Sg) (ok : XOK σ) {B m : Int} (hk : HBm B m σ) (hm : m ≤ 8000) (hB : B ≤ 4294959189) : HBm (B + (x1_step σ).1.toInt) 8000 (x1_step σ).2 := (okh_x1_step σ ok hk hm hB).2

