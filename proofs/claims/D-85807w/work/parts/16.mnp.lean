/-! MODEL 2: pure functions and their invariant -/
set_option maxRecDepth 100000
def m_right (σ : Sg) (x1 : Int32) : Int32 × Sg :=
  lt ((
    if x1 = 0 then
      1
    else
      0) : Int32) fun z2 =>
  lt (sst σ 0 35 z2) fun s10 =>
  (x1, s10)
set_option maxHeartbeats 4000000 in
theorem ok_m_right (σ : Sg) (x1 : Int32) (ok : XOK σ) (hx1 : rg 0 1 x1) : (Pri XOK 0 1) (m_right σ x1) := by
  unfold m_right
  refine jn_pred (fun z2 => rg 0 1 z2) (fun z2 h2 => ?_) ?_
  · refine lt_pred (fun s10 e10 => ?_)
    have k10 : XOK s10 := by rw [e10]; exact xst_f0_35 ok
    exact ⟨k10, hx1⟩
  · refine ite_pred (fun c2 => ?_) (fun c2 => ?_)
    · exact app_i (rg_w rl_1 (by decide) (by decide))
    · exact app_i (rg_w rl_0 (by decide) (by decide))

set_option maxHeartbeats 4000000 in
theorem kp_m_right (σ : Sg) (x1 : Int32) {ka kb : Int32} {m : Int} (hk : Kp ka kb m σ) (hm : m ≤ 1500290000) : Kp ka kb m (m_right σ x1).2 := by
  have hm0 : 0 ≤ m := hk.nn
  show Kpi ka kb m (m_right σ x1)
  unfold m_right
  refine jn_pred (fun z2 => True) (fun z2 h2 => ?_) ?_
  · refine lt_pred (fun s10 e10 => ?_)
    have q10 : Kp ka kb m s10 := by rw [e10]; exact Kp.same hk rfl rfl rfl
    exact Kp.w q10 (by omega)
  · refine ite_pred (fun c2 => ?_) (fun c2 => ?_)
    · exact app_i trivial
    · exact app_i trivial

def m_runL : Nat → Sg → Int32 → Int32 → Int32 → Int32 × Sg
  | 0, σ, _, v2, _ => (v2, σ)
  | n + 1, σ, x1, v2, v3 =>
    if v3 < x1 then
      lt (m_stepped σ) fun z44 =>
      lt ((v2 + z44.1) : Int32) fun v48 =>
      lt ((v3 + 1) : Int32) fun v49 =>
      m_runL n z44.2 x1 v48 v49
    else
      (v2, σ)
def m_runQ (B m : Int) (r : Int32 × Sg) : Prop := XOK r.2 ∧ HBm B m r.2
set_option maxHeartbeats 4000000 in
theorem okh_m_runL (x1 : Int32) (hx1 : rg 1 5000 x1) : ∀ (n : Nat) (σ : Sg) (v2 v3 : Int32) (B m : Int), XOK σ → HBm B m σ → m + 8 * n ≤ 1500000000 → 8000 ≤ m → B + 8100 * n ≤ 4294959189 → rg 0 5000 v3 → v3.toInt ≤ x1.toInt → x1.toInt - v3.toInt < n → m_runQ (B + 8100 * n) (m + 8 * n) (m_runL n σ x1 v2 v3) := by
  intro n
  induction n with
  | zero => intro σ v2 v3 B m ok hk hm hm8 hB hv hvx hmz; omega
  | succ n ih =>
    intro σ v2 v3 B m ok hk hm hm8 hB hv hvx hmz
    have hm0 : 0 ≤ m := hk.nn
    rw [m_runL]
    refine ite_pred (fun c39 => ?_) (fun c39 => ?_)
    · refine lt_pred (fun z44 e44 => ?_)
      have k44 : XOK z44.2 ∧ rg 1 8100 z44.1 := by rw [e44]; exact ok_m_stepped σ ok hk (by omega) (by omega) (by omega)
      have q44 : HBm (B + z44.1.toInt) (m + 8) z44.2 := by subst e44; exact HBm.w (hmr_m_stepped σ ok hk (by omega) (by omega) (by omega)) (by omega) (by omega)
      refine lt_pred (fun v48 e48 => ?_)
      refine lt_pred (fun v49 e49 => ?_)
      have f49 : rg 1 5000 v49 := by rw [e49]; exact (rg_add (rg_lt_hi hv c39 hx1) rl_1 (by decide) (by decide))
      have h1 := Int32.lt_iff_toInt_lt.mp c39
      have hx2 := hx1.2
      have hz2 := k44.2.2
      have hz0 := k44.2.1
      have h4 := hv.1
      have h2 : (v3 + 1).toInt = v3.toInt + 1 := toInt_add' (by show _ ≤ v3.toInt + (1 : Int); omega) (by show v3.toInt + (1 : Int) < _; omega)
      have e3 : v49 = v3 + 1 := e49
      have r := ih z44.2 v48 v49 (B + z44.1.toInt) (m + 8) k44.1 q44 (by omega) (by omega) (by omega) (by rw [e3]; exact ⟨by omega, by omega⟩) (by rw [e3]; omega) (by rw [e3]; omega)
      exact ⟨r.1, HBm.w r.2 (by omega) (by omega)⟩
    · exact (show XOK σ ∧ HBm _ _ σ from ⟨ok, HBm.w hk (by omega) (by omega)⟩)

def m_run (σ : Sg) (x1 : Int32) : Int32 × Sg :=
  if (x1 < 1) ∨ (5000 < x1) then
    lt ((
      0) : Int32) fun z3 =>
    lt (m_right σ z3) fun z18 =>
    (0, z18.2)
  else
    lt (m_right σ 1) fun z18_1 =>
    if (z18_1.2 0 8) = 0 then
      (0, z18_1.2)
    else
      m_runL (x1.toNatClampNeg + 1) z18_1.2 x1 0 0
set_option maxHeartbeats 4000000 in
theorem okh_m_run (σ : Sg) (x1 : Int32) (ok : XOK σ) {B m : Int} (hk : HBm B m σ) (hm : m ≤ 1490000000) (hm8 : 8000 ≤ m) (hB : B ≤ 4253967290) : m_runQ (B + 40600000) (m + 1700000) (m_run σ x1) := by
  have hm0 : 0 ≤ m := hk.nn
  unfold m_run
  refine ite_pred (fun hsp => ?_) (fun hsp => ?_)
  · refine jn_pred (fun z3 => rg 0 0 z3) (fun z3 h3 => ?_) ?_
    · refine lt_pred (fun z18 e18 => ?_)
      have k18 : XOK z18.2 ∧ rg 0 1 z18.1 := by rw [e18]; exact ok_m_right σ z3 ok (rg_w h3 (by decide) (by decide))
      have rr18 : rg 0 0 z18.1 := by rw [e18]; exact (show rg 0 0 z3 from h3)
      have q18 : HBm B m z18.2 := by rw [e18]; exact HBm.w (HBm.kp hk (kp_m_right σ z3 (ka := σ 0 20) (kb := σ 0 13) ⟨rfl, rfl, hk.2⟩ (by omega))) (by omega) (by omega)
      exact (show XOK z18.2 ∧ HBm _ _ z18.2 from ⟨k18.1, HBm.w q18 (by omega) (by omega)⟩)
    · exact app_i rl_0
  · refine lt_pred (fun z18_1 e18_1 => ?_)
    have k18_1 : XOK z18_1.2 ∧ rg 0 1 z18_1.1 := by rw [e18_1]; exact ok_m_right σ 1 ok (rg_w rl_1 (by decide) (by decide))
    have rr18_1 : rg 1 1 z18_1.1 := by rw [e18_1]; exact (show rg 1 1 1 from rl_1)
    have q18_1 : HBm B m z18_1.2 := by rw [e18_1]; exact HBm.w (HBm.kp hk (kp_m_right σ 1 (ka := σ 0 20) (kb := σ 0 13) ⟨rfl, rfl, hk.2⟩ (by omega))) (by omega) (by omega)
    refine ite_pred (fun c28 => ?_) (fun c28 => ?_)
    · exact (show XOK z18_1.2 ∧ HBm _ _ z18_1.2 from ⟨k18_1.1, HBm.w q18_1 (by omega) (by omega)⟩)
    · have hx1 : rg 1 5000 x1 := (rg_nlt_hi (rg_nlt_lo (rg_full x1) (fun w8 => hsp (Or.inl w8)) rl_1) (fun w8 => hsp (Or.inr w8)) rl_5000)
      have hf := (rg_nI (rg_w (lo2 := 0) hx1 (by decide) (Int.le_refl _))).2
      have hf2 := hx1.2
      have hf3 := hx1.1
      have z0 : (0 : Int32).toInt = 0 := by decide +kernel
      have r := okh_m_runL x1 hx1 (x1.toNatClampNeg + 1) z18_1.2 0 0 B m k18_1.1 q18_1 (by omega) (by omega) (by omega) ⟨by omega, by omega⟩ (by omega) (by omega)
      exact (show m_runQ (B + 40600000) (m + 1700000) _ from ⟨r.1, HBm.w r.2 (by omega) (by omega)⟩)

def m_passL : Nat → Sg → Int32 → Int32 → Int32 × Sg
  | 0, σ, _, v2 => (v2, σ)
  | n + 1, σ, x1, v2 =>
    if v2 < x1 then
      lt (m_stepped σ) fun z42 =>
      lt ((v2 + z42.1) : Int32) fun v46 =>
      m_passL n z42.2 x1 v46
    else
      (v2, σ)
def m_passQ (B m : Int) (r : Int32 × Sg) : Prop := XOK r.2 ∧ HBm B m r.2
set_option maxHeartbeats 4000000 in
theorem okh_m_passL (x1 : Int32) (hx1 : rg 1 200000 x1) : ∀ (n : Nat) (σ : Sg) (v2 : Int32) (B m : Int), XOK σ → HBm B m σ → m + 8 * n ≤ 1500000000 → 8000 ≤ m → B + (x1.toInt - v2.toInt) ≤ 4294950290 → rg 0 208100 v2 → v2.toInt ≤ x1.toInt + 8100 → (0 < n ∧ x1.toInt - v2.toInt < n) → m_passQ (B + (x1.toInt - v2.toInt) + 8100) (m + 8 * n) (m_passL n σ x1 v2) := by
  intro n
  induction n with
  | zero => intro σ v2 B m ok hk hm hm8 hB hv hvx hmz; omega
  | succ n ih =>
    intro σ v2 B m ok hk hm hm8 hB hv hvx hmz
    have hm0 : 0 ≤ m := hk.nn
    rw [m_passL]
    refine ite_pred (fun c37 => ?_) (fun c37 => ?_)
    · refine lt_pred (fun z42 e42 => ?_)
      have k42 : XOK z42.2 ∧ rg 1 8100 z42.1 := by rw [e42]; exact ok_m_stepped σ ok hk (by omega) (by omega) (by omega)
      have q42 : HBm (B + z42.1.toInt) (m + 8) z42.2 := by subst e42; exact HBm.w (hmr_m_stepped σ ok hk (by omega) (by omega) (by omega)) (by omega) (by omega)
      refine lt_pred (fun v46 e46 => ?_)
      have f46 : rg 1 208099 v46 := by rw [e46]; exact (rg_add (rg_lt_hi hv c37 hx1) k42.2 (by decide) (by decide))
      have h1 := Int32.lt_iff_toInt_lt.mp c37
      have hx2 := hx1.2
      have hz2 := k42.2.2
      have hz0 := k42.2.1
      have h4 := hv.1
      have h2 : (v2 + z42.1).toInt = v2.toInt + z42.1.toInt := toInt_add' (by omega) (by omega)
      have e2 : v46 = v2 + z42.1 := e46
      have r := ih z42.2 v46 (B + z42.1.toInt) (m + 8) k42.1 q42 (by omega) (by omega) (by rw [e2]; omega) (by rw [e2]; exact ⟨by omega, by omega⟩) (by rw [e2]; omega) (by rw [e2]; omega)
      exact ⟨r.1, HBm.w r.2 (by rw [e2]; omega) (by omega)⟩
    · exact (show XOK σ ∧ HBm _ _ σ from ⟨ok, HBm.w hk (by omega) (by omega)⟩)

def m_pass (σ : Sg) (x1 : Int32) : Int32 × Sg :=
  if (x1 < 1) ∨ (200000 < x1) then
    lt ((
      0) : Int32) fun z3 =>
    lt (m_right σ z3) fun z18 =>
    (0, z18.2)
  else
    lt (m_right σ 1) fun z18_1 =>
    if (z18_1.2 0 8) = 0 then
      (0, z18_1.2)
    else
      m_passL (x1.toNatClampNeg + 1) z18_1.2 x1 0
set_option maxHeartbeats 4000000 in
theorem okh_m_pass (σ : Sg) (x1 : Int32) (ok : XOK σ) {B m : Int} (hk : HBm B m σ) (hm : m ≤ 1490000000) (hm8 : 8000 ≤ m) (hB : B ≤ 4253967290) : m_passQ (B + 40600000) (m + 1700000) (m_pass σ x1) := by
  have hm0 : 0 ≤ m := hk.nn
  unfold m_pass
  refine ite_pred (fun hsp => ?_) (fun hsp => ?_)
  · refine jn_pred (fun z3 => rg 0 0 z3) (fun z3 h3 => ?_) ?_
    · refine lt_pred (fun z18 e18 => ?_)
      have k18 : XOK z18.2 ∧ rg 0 1 z18.1 := by rw [e18]; exact ok_m_right σ z3 ok (rg_w h3 (by decide) (by decide))
      have rr18 : rg 0 0 z18.1 := by rw [e18]; exact (show rg 0 0 z3 from h3)
      have q18 : HBm B m z18.2 := by rw [e18]; exact HBm.w (HBm.kp hk (kp_m_right σ z3 (ka := σ 0 20) (kb := σ 0 13) ⟨rfl, rfl, hk.2⟩ (by omega))) (by omega) (by omega)
      exact (show XOK z18.2 ∧ HBm _ _ z18.2 from ⟨k18.1, HBm.w q18 (by omega) (by omega)⟩)
    · exact app_i rl_0
  · refine lt_pred (fun z18_1 e18_1 => ?_)
    have k18_1 : XOK z18_1.2 ∧ rg 0 1 z18_1.1 := by rw [e18_1]; exact ok_m_right σ 1 ok (rg_w rl_1 (by decide) (by decide))
    have rr18_1 : rg 1 1 z18_1.1 := by rw [e18_1]; exact (show rg 1 1 1 from rl_1)
    have q18_1 : HBm B m z18_1.2 := by rw [e18_1]; exact HBm.w (HBm.kp hk (kp_m_right σ 1 (ka := σ 0 20) (kb := σ 0 13) ⟨rfl, rfl, hk.2⟩ (by omega))) (by omega) (by omega)
    refine ite_pred (fun c28 => ?_) (fun c28 => ?_)
    · exact (show XOK z18_1.2 ∧ HBm _ _ z18_1.2 from ⟨k18_1.1, HBm.w q18_1 (by omega) (by omega)⟩)
    · have hx1 : rg 1 200000 x1 := (rg_nlt_hi (rg_nlt_lo (rg_full x1) (fun w8 => hsp (Or.inl w8)) rl_1) (fun w8 => hsp (Or.inr w8)) rl_200000)
      have hf := (rg_nI (rg_w (lo2 := 0) hx1 (by decide) (Int.le_refl _))).2
      have hf2 := hx1.2
      have hf3 := hx1.1
      have z0 : (0 : Int32).toInt = 0 := by decide +kernel
      have r := okh_m_passL x1 hx1 (x1.toNatClampNeg + 1) z18_1.2 0 B m k18_1.1 q18_1 (by omega) (by omega) (by omega) ⟨by omega, by omega⟩ (by omega) (by omega)
      exact (show m_passQ (B + 40600000) (m + 1700000) _ from ⟨r.1, HBm.w r.2 (by omega) (by omega)⟩)

def m_step (σ : Sg) : Int32 × Sg :=
  lt (sst σ 0 35 0) fun s2 =>
  lt ((
    if (s2 0 8) = 0 then
      (0, s2)
    else
      lt (m_stepped s2) fun z13 =>
      (z13.1, z13.2)) : Int32 × Sg) fun z9 =>
  (z9.1, z9.2)
set_option maxHeartbeats 4000000 in
theorem ok_m_step (σ : Sg) (ok : XOK σ) {B m : Int} (hk : HBm B m σ) (hm : m ≤ 1500000000) (hm8 : 8000 ≤ m) (hB : B ≤ 4294959189) : (Pri XOK 0 8100) (m_step σ) := by
  have hm0 : 0 ≤ m := hk.nn
  unfold m_step
  refine lt_pred (fun s2 e2 => ?_)
  have k2 : XOK s2 := by rw [e2]; exact xst_f0_35 ok
  have q2 : HBm B m s2 := by rw [e2]; exact HBm.same hk rfl rfl rfl
  refine jn_pred (fun z9 => rg 0 8100 z9.1 ∧ HBm (B + 8100) (m + 8) z9.2 ∧ XOK z9.2) (fun z9 h9 => ?_) ?_
  · exact ⟨h9.2.2, h9.1⟩
  · refine ite_pred (fun c9 => ?_) (fun c9 => ?_)
    · exact app_i ⟨(rg_w rl_0 (by decide) (by decide)), (HBm.w q2 (by omega) (by omega)), k2⟩
    · refine lt_pred (fun z13 e13 => ?_)
      have k13 : XOK z13.2 ∧ rg 1 8100 z13.1 := by rw [e13]; exact ok_m_stepped s2 k2 q2 (by omega) (by omega) (by omega)
      have q13 : HBm (B + 8100) (m + 8) z13.2 := by subst e13; exact HBm.w (hmr_m_stepped s2 k2 q2 (by omega) (by omega) (by omega)) (by have q8 := k13.2.2; omega) (by omega)
      exact app_i ⟨(rg_w k13.2 (by decide) (by decide)), (HBm.w q13 (by omega) (by omega)), k13.1⟩

def m_host (σ : Sg) (x1 : Int32) : Int32 × Sg :=
  lt (sst σ 0 35 0) fun s2 =>
  if (s2 0 19) = 300 then
    ((-1), s2)
  else
    lt (sst s2 6 ((s2 0 19)).toNatClampNeg (x1 &&& 255)) fun s30 =>
    lt (sst s30 0 19 ((s30 0 19) + 1)) fun s38 =>
    ((s38 0 19), s38)
set_option maxHeartbeats 4000000 in
theorem ok_m_host (σ : Sg) (x1 : Int32) (ok : XOK σ) : (Pri XOK (-1) 300) (m_host σ x1) := by
  unfold m_host
  refine lt_pred (fun s2 e2 => ?_)
  have k2 : XOK s2 := by rw [e2]; exact xst_f0_35 ok
  refine ite_pred (fun c12 => ?_) (fun c12 => ?_)
  · exact ⟨k2, (rg_w rl_m1 (by decide) (by decide))⟩
  · refine lt_pred (fun s30 e30 => ?_)
    have k30 : XOK s30 := by rw [e30]; exact xst_6 k2 (rg_and_r (rg_w (lo2 := 0) rl_255 (by decide) (Int.le_refl _)))
    have y19_30 : rg 0 299 (s30 0 19) := by rw [e30]; exact (show rg 0 299 (s2 0 19) from (rg_ne_hi (xr0_19 k2) c12 (by decide +kernel)))
    refine lt_pred (fun s38 e38 => ?_)
    have k38 : XOK s38 := by rw [e38]; exact xst_0_19 k30 (rg_w (rg_add y19_30 rl_1 (by decide) (by decide)) (by decide) (by decide))
    have y19_38 : rg 1 300 (s38 0 19) := by rw [e38]; exact (show rg 1 300 ((s30 0 19) + 1) from (rg_add y19_30 rl_1 (by decide) (by decide)))
    exact ⟨k38, (rg_w y19_38 (by decide) (by decide))⟩

set_option maxHeartbeats 4000000 in
theorem kp_m_host (σ : Sg) (x1 : Int32) {ka kb : Int32} {m : Int} (hk : Kp ka kb m σ) (hm : m ≤ 1500290000) : Kp ka kb m (m_host σ x1).2 := by
  have hm0 : 0 ≤ m := hk.nn
  show Kpi ka kb m (m_host σ x1)
  unfold m_host
  refine lt_pred (fun s2 e2 => ?_)
  have q2 : Kp ka kb m s2 := by rw [e2]; exact Kp.same hk rfl rfl rfl
  refine ite_pred (fun c12 => ?_) (fun c12 => ?_)
  · exact Kp.w q2 (by omega)
  · refine lt_pred (fun s30 e30 => ?_)
    have q30 : Kp ka kb m s30 := by rw [e30]; exact Kp.same q2 rfl rfl rfl
    refine lt_pred (fun s38 e38 => ?_)
    have q38 : Kp ka kb m s38 := by rw [e38]; exact Kp.same q30 rfl rfl rfl
    exact Kp.w q38 (by omega)

def m_sent (σ : Sg) : Int32 × Sg :=
  lt (sst σ 0 35 0) fun s2 =>
  ((s2 0 20), s2)
set_option maxHeartbeats 4000000 in
theorem ok_m_sent (σ : Sg) (ok : XOK σ) : (Prt XOK) (m_sent σ) := by
  unfold m_sent
  refine lt_pred (fun s2 e2 => ?_)
  have k2 : XOK s2 := by rw [e2]; exact xst_f0_35 ok
  exact ⟨k2, trivial⟩

set_option maxHeartbeats 4000000 in
theorem kp_m_sent (σ : Sg) {ka kb : Int32} {m : Int} (hk : Kp ka kb m σ) (hm : m ≤ 1500290000) : Kp ka kb m (m_sent σ).2 := by
  have hm0 : 0 ≤ m := hk.nn
  show Kpi ka kb m (m_sent σ)
  unfold m_sent
  refine lt_pred (fun s2 e2 => ?_)
  have q2 : Kp ka kb m s2 := by rw [e2]; exact Kp.same hk rfl rfl rfl
  exact Kp.w q2 (by omega)

def m_got (σ : Sg) (x1 : Int32) : Int32 × Sg :=
  if (¬ (x1 < 0)) ∧ ((x1 < (σ 0 20)) ∧ (x1 < 1000)) then
    lt (m_right σ 1) fun z25 =>
    ((z25.2 4 (x1).toNatClampNeg), z25.2)
  else
    lt ((
      0) : Int32) fun z2 =>
    lt (m_right σ z2) fun z25_1 =>
    (0, z25_1.2)
set_option maxHeartbeats 4000000 in
theorem ok_m_got (σ : Sg) (x1 : Int32) (ok : XOK σ) : (Prt XOK) (m_got σ x1) := by
  unfold m_got
  refine ite_pred (fun hsp => ?_) (fun hsp => ?_)
  · refine lt_pred (fun z25 e25 => ?_)
    have k25 : XOK z25.2 ∧ rg 0 1 z25.1 := by rw [e25]; exact ok_m_right σ 1 ok (rg_w rl_1 (by decide) (by decide))
    have rr25 : rg 1 1 z25.1 := by rw [e25]; exact (show rg 1 1 1 from rl_1)
    exact ⟨k25.1, trivial⟩
  · refine jn_pred (fun z2 => rg 0 0 z2) (fun z2 h2 => ?_) ?_
    · refine lt_pred (fun z25_1 e25_1 => ?_)
      have k25_1 : XOK z25_1.2 ∧ rg 0 1 z25_1.1 := by rw [e25_1]; exact ok_m_right σ z2 ok (rg_w h2 (by decide) (by decide))
      have rr25_1 : rg 0 0 z25_1.1 := by rw [e25_1]; exact (show rg 0 0 z2 from h2)
      exact ⟨k25_1.1, trivial⟩
    · exact app_i rl_0

set_option maxHeartbeats 4000000 in
theorem kp_m_got (σ : Sg) (x1 : Int32) {ka kb : Int32} {m : Int} (hk : Kp ka kb m σ) (hm : m ≤ 1500280000) : Kp ka kb m (m_got σ x1).2 := by
  have hm0 : 0 ≤ m := hk.nn
  show Kpi ka kb m (m_got σ x1)
  unfold m_got
  refine ite_pred (fun hsp => ?_) (fun hsp => ?_)
  · refine lt_pred (fun z25 e25 => ?_)
    have q25 : Kp ka kb m z25.2 := by rw [e25]; exact Kp.w (kp_m_right σ 1 hk (by omega)) (by omega)
    exact Kp.w q25 (by omega)
  · refine jn_pred (fun z2 => rg 0 0 z2) (fun z2 h2 => ?_) ?_
    · refine lt_pred (fun z25_1 e25_1 => ?_)
      have q25_1 : Kp ka kb m z25_1.2 := by rw [e25_1]; exact Kp.w (kp_m_right σ z2 hk (by omega)) (by omega)
      exact Kp.w q25_1 (by omega)
    · exact app_i rl_0

def m_burnt (σ : Sg) (x1 : Int32) (x2 : Int32) (x3 : Int32) : Int32 × Sg :=
  lt ((
    if (x1 + x2) < 2048 then
      lt (sst σ 2 ((x1 + x2)).toNatClampNeg ((x3).toUInt32 >>> ((16).toUInt32 &&& Int32.toUInt32 31)).toInt32) fun s25 =>
      lt ((x2 + 1) : Int32) fun v26 =>
      (v26, s25)
    else
      (x2, σ)) : Int32 × Sg) fun z10 =>
  lt ((
    if (x1 + z10.1) < 2048 then
      lt (sst z10.2 2 ((x1 + z10.1)).toNatClampNeg (x3 &&& 65535)) fun s51 =>
      lt ((z10.1 + 1) : Int32) fun v52 =>
      (v52, s51)
    else
      (z10.1, z10.2)) : Int32 × Sg) fun z36 =>
  (z36.1, z36.2)
set_option maxHeartbeats 4000000 in
theorem ok_m_burnt (σ : Sg) (x1 : Int32) (x2 : Int32) (x3 : Int32) (ok : XOK σ) (hx1 : rg 0 2047 x1) (hx2 : rg 0 2048 x2) : (Pri XOK 0 2048) (m_burnt σ x1 x2 x3) := by
  unfold m_burnt
  refine jn_pred (fun z10 => rg 0 2048 z10.1 ∧ XOK z10.2) (fun z10 h10 => ?_) ?_
  · refine jn_pred (fun z36 => rg 0 2048 z36.1 ∧ XOK z36.2) (fun z36 h36 => ?_) ?_
    · exact ⟨h36.2, h36.1⟩
    · refine ite_pred (fun c36 => ?_) (fun c36 => ?_)
      · refine lt_pred (fun s51 e51 => ?_)
        have k51 : XOK s51 := by rw [e51]; exact xst_2 h10.2 (rg_and_r (rg_w (lo2 := 0) rl_65535 (by decide) (Int.le_refl _)))
        refine lt_pred (fun v52 e52 => ?_)
        have f52 : rg 1 2048 v52 := by rw [e52]; exact (rg_add (rg_add_hi hx1 h10.1 (by decide) c36 rl_2048) rl_1 (by decide) (by decide))
        exact app_i ⟨(rg_w f52 (by decide) (by decide)), k51⟩
      · exact app_i ⟨h10.1, h10.2⟩
  · refine ite_pred (fun c10 => ?_) (fun c10 => ?_)
    · refine lt_pred (fun s25 e25 => ?_)
      have k25 : XOK s25 := by rw [e25]; exact xst_2 ok (rg_ushr16 _)
      refine lt_pred (fun v26 e26 => ?_)
      have f26 : rg 1 2048 v26 := by rw [e26]; exact (rg_add (rg_add_hi hx1 hx2 (by decide) c10 rl_2048) rl_1 (by decide) (by decide))
      exact app_i ⟨(rg_w f26 (by decide) (by decide)), k25⟩
    · exact app_i ⟨hx2, ok⟩

set_option maxHeartbeats 4000000 in
theorem kp_m_burnt (σ : Sg) (x1 : Int32) (x2 : Int32) (x3 : Int32) {ka kb : Int32} {m : Int} (hk : Kp ka kb m σ) (hm : m ≤ 1500290000) : Kp ka kb m (m_burnt σ x1 x2 x3).2 := by
  have hm0 : 0 ≤ m := hk.nn
  show Kpi ka kb m (m_burnt σ x1 x2 x3)
  unfold m_burnt
  refine jn_pred (fun z10 => Kp ka kb m z10.2) (fun z10 h10 => ?_) ?_
  · refine jn_pred (fun z36 => Kp ka kb m z36.2) (fun z36 h36 => ?_) ?_
    · exact Kp.w h36 (by omega)
    · refine ite_pred (fun c36 => ?_) (fun c36 => ?_)
      · refine lt_pred (fun s51 e51 => ?_)
        have q51 : Kp ka kb m s51 := by rw [e51]; exact Kp.same h10 rfl rfl rfl
        refine lt_pred (fun v52 e52 => ?_)
        exact app_i (Kp.w q51 (by omega))
      · exact app_i (Kp.w h10 (by omega))
  · refine ite_pred (fun c10 => ?_) (fun c10 => ?_)
    · refine lt_pred (fun s25 e25 => ?_)
      have q25 : Kp ka kb m s25 := by rw [e25]; exact Kp.same hk rfl rfl rfl
      refine lt_pred (fun v26 e26 => ?_)
      exact app_i (Kp.w q25 (by omega))
    · exact app_i (Kp.w hk (by omega))

def m_burn (σ : Sg) (x1 : Int32) (x2 : Int32) (x3 : Int32) (x4 : Int32) (x5 : Int32) (x6 : Int32) : Int32 × Sg :=
  if (¬ (x1 < 0)) ∧ (x1 < 2048) then
    lt (m_right σ 1) fun z17 =>
    lt (m_burnt z17.2 x1 0 x2) fun z29 =>
    lt (m_burnt z29.2 x1 z29.1 x3) fun z39 =>
    lt (m_burnt z39.2 x1 z39.1 x4) fun z50 =>
    lt (m_burnt z50.2 x1 z50.1 x5) fun z61 =>
    lt (m_burnt z61.2 x1 z61.1 x6) fun z72 =>
    (z72.1, z72.2)
  else
    lt ((
      0) : Int32) fun z2 =>
    lt (m_right σ z2) fun z17_1 =>
    (0, z17_1.2)
set_option maxHeartbeats 4000000 in
theorem ok_m_burn (σ : Sg) (x1 : Int32) (x2 : Int32) (x3 : Int32) (x4 : Int32) (x5 : Int32) (x6 : Int32) (ok : XOK σ) : (Pri XOK 0 2048) (m_burn σ x1 x2 x3 x4 x5 x6) := by
  unfold m_burn
  refine ite_pred (fun hsp => ?_) (fun hsp => ?_)
  · refine lt_pred (fun z17 e17 => ?_)
    have k17 : XOK z17.2 ∧ rg 0 1 z17.1 := by rw [e17]; exact ok_m_right σ 1 ok (rg_w rl_1 (by decide) (by decide))
    have rr17 : rg 1 1 z17.1 := by rw [e17]; exact (show rg 1 1 1 from rl_1)
    refine lt_pred (fun z29 e29 => ?_)
    have k29 : XOK z29.2 ∧ rg 0 2048 z29.1 := by rw [e29]; exact ok_m_burnt z17.2 x1 0 x2 k17.1 (rg_lt_hi (rg_nlt_lo (rg_full x1) (hsp).1 rl_0) (hsp).2 rl_2048) (rg_w rl_0 (by decide) (by decide))
    refine lt_pred (fun z39 e39 => ?_)
    have k39 : XOK z39.2 ∧ rg 0 2048 z39.1 := by rw [e39]; exact ok_m_burnt z29.2 x1 z29.1 x3 k29.1 (rg_lt_hi (rg_nlt_lo (rg_full x1) (hsp).1 rl_0) (hsp).2 rl_2048) k29.2
    refine lt_pred (fun z50 e50 => ?_)
    have k50 : XOK z50.2 ∧ rg 0 2048 z50.1 := by rw [e50]; exact ok_m_burnt z39.2 x1 z39.1 x4 k39.1 (rg_lt_hi (rg_nlt_lo (rg_full x1) (hsp).1 rl_0) (hsp).2 rl_2048) k39.2
    refine lt_pred (fun z61 e61 => ?_)
    have k61 : XOK z61.2 ∧ rg 0 2048 z61.1 := by rw [e61]; exact ok_m_burnt z50.2 x1 z50.1 x5 k50.1 (rg_lt_hi (rg_nlt_lo (rg_full x1) (hsp).1 rl_0) (hsp).2 rl_2048) k50.2
    refine lt_pred (fun z72 e72 => ?_)
    have k72 : XOK z72.2 ∧ rg 0 2048 z72.1 := by rw [e72]; exact ok_m_burnt z61.2 x1 z61.1 x6 k61.1 (rg_lt_hi (rg_nlt_lo (rg_full x1) (hsp).1 rl_0) (hsp).2 rl_2048) k61.2
    exact ⟨k72.1, k72.2⟩
  · refine jn_pred (fun z2 => rg 0 0 z2) (fun z2 h2 => ?_) ?_
    · refine lt_pred (fun z17_1 e17_1 => ?_)
      have k17_1 : XOK z17_1.2 ∧ rg 0 1 z17_1.1 := by rw [e17_1]; exact ok_m_right σ z2 ok (rg_w h2 (by decide) (by decide))
      have rr17_1 : rg 0 0 z17_1.1 := by rw [e17_1]; exact (show rg 0 0 z2 from h2)
      exact ⟨k17_1.1, (rg_w rl_0 (by decide) (by decide))⟩
    · exact app_i rl_0

set_option maxHeartbeats 4000000 in
theorem kp_m_burn (σ : Sg) (x1 : Int32) (x2 : Int32) (x3 : Int32) (x4 : Int32) (x5 : Int32) (x6 : Int32) {ka kb : Int32} {m : Int} (hk : Kp ka kb m σ) (hm : m ≤ 1500280000) : Kp ka kb m (m_burn σ x1 x2 x3 x4 x5 x6).2 := by
  have hm0 : 0 ≤ m := hk.nn
  show Kpi ka kb m (m_burn σ x1 x2 x3 x4 x5 x6)
  unfold m_burn
  refine ite_pred (fun hsp => ?_) (fun hsp => ?_)
  · refine lt_pred (fun z17 e17 => ?_)
    have q17 : Kp ka kb m z17.2 := by rw [e17]; exact Kp.w (kp_m_right σ 1 hk (by omega)) (by omega)
    refine lt_pred (fun z29 e29 => ?_)
    have q29 : Kp ka kb m z29.2 := by rw [e29]; exact Kp.w (kp_m_burnt z17.2 x1 0 x2 q17 (by omega)) (by omega)
    refine lt_pred (fun z39 e39 => ?_)
    have q39 : Kp ka kb m z39.2 := by rw [e39]; exact Kp.w (kp_m_burnt z29.2 x1 z29.1 x3 q29 (by omega)) (by omega)
    refine lt_pred (fun z50 e50 => ?_)
    have q50 : Kp ka kb m z50.2 := by rw [e50]; exact Kp.w (kp_m_burnt z39.2 x1 z39.1 x4 q39 (by omega)) (by omega)
    refine lt_pred (fun z61 e61 => ?_)
    have q61 : Kp ka kb m z61.2 := by rw [e61]; exact Kp.w (kp_m_burnt z50.2 x1 z50.1 x5 q50 (by omega)) (by omega)
    refine lt_pred (fun z72 e72 => ?_)
    have q72 : Kp ka kb m z72.2 := by rw [e72]; exact Kp.w (kp_m_burnt z61.2 x1 z61.1 x6 q61 (by omega)) (by omega)
    exact Kp.w q72 (by omega)
  · refine jn_pred (fun z2 => rg 0 0 z2) (fun z2 h2 => ?_) ?_
    · refine lt_pred (fun z17_1 e17_1 => ?_)
      have q17_1 : Kp ka kb m z17_1.2 := by rw [e17_1]; exact Kp.w (kp_m_right σ z2 hk (by omega)) (by omega)
      exact Kp.w q17_1 (by omega)
    · exact app_i rl_0

def m_word (σ : Sg) (x1 : Int32) : Int32 × Sg :=
  if (¬ (x1 < 0)) ∧ (x1 < 2048) then
    lt (m_right σ 1) fun z17 =>
    ((z17.2 2 (x1).toNatClampNeg), z17.2)
  else
    lt ((
      0) : Int32) fun z2 =>
    lt (m_right σ z2) fun z17_1 =>
    (0, z17_1.2)
set_option maxHeartbeats 4000000 in
theorem ok_m_word (σ : Sg) (x1 : Int32) (ok : XOK σ) : (Pri XOK 0 65535) (m_word σ x1) := by
  unfold m_word
  refine ite_pred (fun hsp => ?_) (fun hsp => ?_)
  · refine lt_pred (fun z17 e17 => ?_)
    have k17 : XOK z17.2 ∧ rg 0 1 z17.1 := by rw [e17]; exact ok_m_right σ 1 ok (rg_w rl_1 (by decide) (by decide))
    have rr17 : rg 1 1 z17.1 := by rw [e17]; exact (show rg 1 1 1 from rl_1)
    exact ⟨k17.1, (xr_2 k17.1 _)⟩
  · refine jn_pred (fun z2 => rg 0 0 z2) (fun z2 h2 => ?_) ?_
    · refine lt_pred (fun z17_1 e17_1 => ?_)
      have k17_1 : XOK z17_1.2 ∧ rg 0 1 z17_1.1 := by rw [e17_1]; exact ok_m_right σ z2 ok (rg_w h2 (by decide) (by decide))
      have rr17_1 : rg 0 0 z17_1.1 := by rw [e17_1]; exact (show rg 0 0 z2 from h2)
      exact ⟨k17_1.1, (rg_w rl_0 (by decide) (by decide))⟩
    · exact app_i rl_0

set_option maxHeartbeats 4000000 in
theorem kp_m_word (σ : Sg) (x1 : Int32) {ka kb : Int32} {m : Int} (hk : Kp ka kb m σ) (hm : m ≤ 1500280000) : Kp ka kb m (m_word σ x1).2 := by
  have hm0 : 0 ≤ m := hk.nn
  show Kpi ka kb m (m_word σ x1)
  unfold m_word
  refine ite_pred (fun hsp => ?_) (fun hsp => ?_)
  · refine lt_pred (fun z17 e17 => ?_)
    have q17 : Kp ka kb m z17.2 := by rw [e17]; exact Kp.w (kp_m_right σ 1 hk (by omega)) (by omega)
    exact Kp.w q17 (by omega)
  · refine jn_pred (fun z2 => rg 0 0 z2) (fun z2 h2 => ?_) ?_
    · refine lt_pred (fun z17_1 e17_1 => ?_)
      have q17_1 : Kp ka kb m z17_1.2 := by rw [e17_1]; exact Kp.w (kp_m_right σ z2 hk (by omega)) (by omega)
      exact Kp.w q17_1 (by omega)
    · exact app_i rl_0

def m_data (σ : Sg) (x1 : Int32) : Int32 × Sg :=
  if (¬ (x1 < 0)) ∧ (x1 < 1280) then
    lt (m_right σ 1) fun z17 =>
    ((m_seen z17.2 x1), z17.2)
  else
    lt ((
      0) : Int32) fun z2 =>
    lt (m_right σ z2) fun z17_1 =>
    (0, z17_1.2)
set_option maxHeartbeats 4000000 in
theorem ok_m_data (σ : Sg) (x1 : Int32) (ok : XOK σ) : (Pri XOK 0 255) (m_data σ x1) := by
  unfold m_data
  refine ite_pred (fun hsp => ?_) (fun hsp => ?_)
  · refine lt_pred (fun z17 e17 => ?_)
    have k17 : XOK z17.2 ∧ rg 0 1 z17.1 := by rw [e17]; exact ok_m_right σ 1 ok (rg_w rl_1 (by decide) (by decide))
    have rr17 : rg 1 1 z17.1 := by rw [e17]; exact (show rg 1 1 1 from rl_1)
    exact ⟨k17.1, (ok_m_seen z17.2 x1 k17.1 (rg_w (rg_lt_hi (rg_nlt_lo (rg_full x1) (hsp).1 rl_0) (hsp).2 rl_1280) (by decide) (by decide)))⟩
  · refine jn_pred (fun z2 => rg 0 0 z2) (fun z2 h2 => ?_) ?_
    · refine lt_pred (fun z17_1 e17_1 => ?_)
      have k17_1 : XOK z17_1.2 ∧ rg 0 1 z17_1.1 := by rw [e17_1]; exact ok_m_right σ z2 ok (rg_w h2 (by decide) (by decide))
      have rr17_1 : rg 0 0 z17_1.1 := by rw [e17_1]; exact (show rg 0 0 z2 from h2)
      exact ⟨k17_1.1, (rg_w rl_0 (by decide) (by decide))⟩
    · exact app_i rl_0

set_option maxHeartbeats 4000000 in
theorem kp_m_data (σ : Sg) (x1 : Int32) {ka kb : Int32} {m : Int} (hk : Kp ka kb m σ) (hm : m ≤ 1500280000) : Kp ka kb m (m_data σ x1).2 := by
  have hm0 : 0 ≤ m := hk.nn
  show Kpi ka kb m (m_data σ x1)
  unfold m_data
  refine ite_pred (fun hsp => ?_) (fun hsp => ?_)
  · refine lt_pred (fun z17 e17 => ?_)
    have q17 : Kp ka kb m z17.2 := by rw [e17]; exact Kp.w (kp_m_right σ 1 hk (by omega)) (by omega)
    exact Kp.w q17 (by omega)
  · refine jn_pred (fun z2 => rg 0 0 z2) (fun z2 h2 => ?_) ?_
    · refine lt_pred (fun z17_1 e17_1 => ?_)
      have q17_1 : Kp ka kb m z17_1.2 := by rw [e17_1]; exact Kp.w (kp_m_right σ z2 hk (by omega)) (by omega)
      exact Kp.w q17_1 (by omega)
    · exact app_i rl_0

def m_put (σ : Sg) (x1 : Int32) (x2 : Int32) : Sg :=
  if ((x1 < 0) ∨ (¬ (x1 < 32))) ∧ (((x1 < 93) ∨ (95 < x1)) ∧ ((x1 < 256) ∨ (¬ (x1 < 1280)))) then
    lt ((
      0) : Int32) fun z2 =>
    lt (m_right σ z2) fun z42 =>
    z42.2
  else
    lt ((
      1) : Int32) fun z2_1 =>
    lt (m_right σ z2_1) fun z42_1 =>
    lt (sst z42_1.2 1 (x1).toNatClampNeg (x2 &&& 255)) fun s58 =>
    s58
set_option maxHeartbeats 4000000 in
theorem ok_m_put (σ : Sg) (x1 : Int32) (x2 : Int32) (ok : XOK σ) : XOK (m_put σ x1 x2) := by
  unfold m_put
  refine ite_pred (fun hsp => ?_) (fun hsp => ?_)
  · refine jn_pred (fun z2 => rg 0 0 z2) (fun z2 h2 => ?_) ?_
    · refine lt_pred (fun z42 e42 => ?_)
      have k42 : XOK z42.2 ∧ rg 0 1 z42.1 := by rw [e42]; exact ok_m_right σ z2 ok (rg_w h2 (by decide) (by decide))
      have rr42 : rg 0 0 z42.1 := by rw [e42]; exact (show rg 0 0 z2 from h2)
      exact k42.1
    · exact app_i rl_0
  · refine jn_pred (fun z2_1 => rg 1 1 z2_1) (fun z2_1 h2_1 => ?_) ?_
    · refine lt_pred (fun z42_1 e42_1 => ?_)
      have k42_1 : XOK z42_1.2 ∧ rg 0 1 z42_1.1 := by rw [e42_1]; exact ok_m_right σ z2_1 ok (rg_w h2_1 (by decide) (by decide))
      have rr42_1 : rg 1 1 z42_1.1 := by rw [e42_1]; exact (show rg 1 1 z2_1 from h2_1)
      refine lt_pred (fun s58 e58 => ?_)
      have k58 : XOK s58 := by rw [e58]; exact xst_1 k42_1.1 (rg_and_r (rg_w (lo2 := 0) rl_255 (by decide) (Int.le_refl _)))
      exact k58
    · exact app_i rl_1

set_option maxHeartbeats 4000000 in
theorem kp_m_put (σ : Sg) (x1 : Int32) (x2 : Int32) {ka kb : Int32} {m : Int} (hk : Kp ka kb m σ) (hm : m ≤ 1500280000) : Kp ka kb m (m_put σ x1 x2) := by
  have hm0 : 0 ≤ m := hk.nn
  show Kp ka kb m (m_put σ x1 x2)
  unfold m_put
  refine ite_pred (fun hsp => ?_) (fun hsp => ?_)
  · refine jn_pred (fun z2 => rg 0 0 z2) (fun z2 h2 => ?_) ?_
    · refine lt_pred (fun z42 e42 => ?_)
      have q42 : Kp ka kb m z42.2 := by rw [e42]; exact Kp.w (kp_m_right σ z2 hk (by omega)) (by omega)
      exact Kp.w q42 (by omega)
    · exact app_i rl_0
  · refine jn_pred (fun z2_1 => rg 1 1 z2_1) (fun z2_1 h2_1 => ?_) ?_
    · refine lt_pred (fun z42_1 e42_1 => ?_)
      have q42_1 : Kp ka kb m z42_1.2 := by rw [e42_1]; exact Kp.w (kp_m_right σ z2_1 hk (by omega)) (by omega)
      refine lt_pred (fun s58 e58 => ?_)
      have q58 : Kp ka kb m s58 := by rw [e58]; exact Kp.same q42_1 rfl rfl rfl
      exact Kp.w q58 (by omega)
    · exact app_i rl_1

def m_eeprom (σ : Sg) (x1 : Int32) : Int32 × Sg :=
  if (¬ (x1 < 0)) ∧ (x1 < 256) then
    lt (m_right σ 1) fun z17 =>
    ((z17.2 3 (x1).toNatClampNeg), z17.2)
  else
    lt ((
      0) : Int32) fun z2 =>
    lt (m_right σ z2) fun z17_1 =>
    (0, z17_1.2)
set_option maxHeartbeats 4000000 in
theorem ok_m_eeprom (σ : Sg) (x1 : Int32) (ok : XOK σ) : (Pri XOK 0 255) (m_eeprom σ x1) := by
  unfold m_eeprom
  refine ite_pred (fun hsp => ?_) (fun hsp => ?_)
  · refine lt_pred (fun z17 e17 => ?_)
    have k17 : XOK z17.2 ∧ rg 0 1 z17.1 := by rw [e17]; exact ok_m_right σ 1 ok (rg_w rl_1 (by decide) (by decide))
    have rr17 : rg 1 1 z17.1 := by rw [e17]; exact (show rg 1 1 1 from rl_1)
    exact ⟨k17.1, (xr_3 k17.1 _)⟩
  · refine jn_pred (fun z2 => rg 0 0 z2) (fun z2 h2 => ?_) ?_
    · refine lt_pred (fun z17_1 e17_1 => ?_)
      have k17_1 : XOK z17_1.2 ∧ rg 0 1 z17_1.1 := by rw [e17_1]; exact ok_m_right σ z2 ok (rg_w h2 (by decide) (by decide))
      have rr17_1 : rg 0 0 z17_1.1 := by rw [e17_1]; exact (show rg 0 0 z2 from h2)
      exact ⟨k17_1.1, (rg_w rl_0 (by decide) (by decide))⟩
    · exact app_i rl_0

set_option maxHeartbeats 4000000 in
theorem kp_m_eeprom (σ : Sg) (x1 : Int32) {ka kb : Int32} {m : Int} (hk : Kp ka kb m σ) (hm : m ≤ 1500280000) : Kp ka kb m (m_eeprom σ x1).2 := by
  have hm0 : 0 ≤ m := hk.nn
  show Kpi ka kb m (m_eeprom σ x1)
  unfold m_eeprom
  refine ite_pred (fun hsp => ?_) (fun hsp => ?_)
  · refine lt_pred (fun z17 e17 => ?_)
    have q17 : Kp ka kb m z17.2 := by rw [e17]; exact Kp.w (kp_m_right σ 1 hk (by omega)) (by omega)
    exact Kp.w q17 (by omega)
  · refine jn_pred (fun z2 => rg 0 0 z2) (fun z2 h2 => ?_) ?_
    · refine lt_pred (fun z17_1 e17_1 => ?_)
      have q17_1 : Kp ka kb m z17_1.2 := by rw [e17_1]; exact Kp.w (kp_m_right σ z2 hk (by omega)) (by omega)
      exact Kp.w q17_1 (by omega)
    · exact app_i rl_0

def m_pins (σ : Sg) (x1 : Int32) : Int32 × Sg :=
  lt (sst σ 0 35 0) fun s2 =>
  lt ((s2 0 9) : Int32) fun v9 =>
  lt (sst s2 0 9 (x1 &&& 255)) fun s16 =>
  (v9, s16)
set_option maxHeartbeats 4000000 in
theorem ok_m_pins (σ : Sg) (x1 : Int32) (ok : XOK σ) : (Prt XOK) (m_pins σ x1) := by
  unfold m_pins
  refine lt_pred (fun s2 e2 => ?_)
  have k2 : XOK s2 := by rw [e2]; exact xst_f0_35 ok
  refine lt_pred (fun v9 e9 => ?_)
  refine lt_pred (fun s16 e16 => ?_)
  have k16 : XOK s16 := by rw [e16]; exact xst_f0_9 k2
  exact ⟨k16, trivial⟩

set_option maxHeartbeats 4000000 in
theorem kp_m_pins (σ : Sg) (x1 : Int32) {ka kb : Int32} {m : Int} (hk : Kp ka kb m σ) (hm : m ≤ 1500290000) : Kp ka kb m (m_pins σ x1).2 := by
  have hm0 : 0 ≤ m := hk.nn
  show Kpi ka kb m (m_pins σ x1)
  unfold m_pins
  refine lt_pred (fun s2 e2 => ?_)
  have q2 : Kp ka kb m s2 := by rw [e2]; exact Kp.same hk rfl rfl rfl
  refine lt_pred (fun v9 e9 => ?_)
  refine lt_pred (fun s16 e16 => ?_)
  have q16 : Kp ka kb m s16 := by rw [e16]; exact Kp.same q2 rfl rfl rfl
  exact Kp.w q16 (by omega)

def m_fuses (σ : Sg) (x1 : Int32) : Int32 × Sg :=
  lt (sst σ 0 35 0) fun s2 =>
  lt ((((s2 0 29) <<< (4 : Int32)) ||| (s2 0 28)) : Int32) fun v16 =>
  lt (sst s2 0 28 (x1 &&& 15)) fun s22 =>
  lt (sst s22 0 29 ((x1 >>> (4 : Int32)) &&& 1)) fun s31 =>
  (v16, s31)
set_option maxHeartbeats 4000000 in
theorem ok_m_fuses (σ : Sg) (x1 : Int32) (ok : XOK σ) : (Pri XOK 0 31) (m_fuses σ x1) := by
  unfold m_fuses
  refine lt_pred (fun s2 e2 => ?_)
  have k2 : XOK s2 := by rw [e2]; exact xst_f0_35 ok
  refine lt_pred (fun v16 e16 => ?_)
  have f16 : rg 0 31 v16 := by rw [e16]; exact (rg_or 5 (rg_shl 4 (by decide +kernel) (xr0_29 k2) (by decide)) (xr0_28 k2) (by decide) (by decide) (by decide))
  refine lt_pred (fun s22 e22 => ?_)
  have k22 : XOK s22 := by rw [e22]; exact xst_0_28 k2 (rg_and_r (rg_w (lo2 := 0) rl_15 (by decide) (Int.le_refl _)))
  refine lt_pred (fun s31 e31 => ?_)
  have k31 : XOK s31 := by rw [e31]; exact xst_0_29 k22 (rg_and_r (rg_w (lo2 := 0) rl_1 (by decide) (Int.le_refl _)))
  exact ⟨k31, f16⟩

set_option maxHeartbeats 4000000 in
theorem kp_m_fuses (σ : Sg) (x1 : Int32) {ka kb : Int32} {m : Int} (hk : Kp ka kb m σ) (hm : m ≤ 1500290000) : Kp ka kb m (m_fuses σ x1).2 := by
  have hm0 : 0 ≤ m := hk.nn
  show Kpi ka kb m (m_fuses σ x1)
  unfold m_fuses
  refine lt_pred (fun s2 e2 => ?_)
  have q2 : Kp ka kb m s2 := by rw [e2]; exact Kp.same hk rfl rfl rfl
  refine lt_pred (fun v16 e16 => ?_)
  refine lt_pred (fun s22 e22 => ?_)
  have q22 : Kp ka kb m s22 := by rw [e22]; exact Kp.same q2 rfl rfl rfl
  refine lt_pred (fun s31 e31 => ?_)
  have q31 : Kp ka kb m s31 := by rw [e31]; exact Kp.same q22 rfl rfl rfl
  exact Kp.w q31 (by omega)

def m_start (σ : Sg) (x1 : Int32) : Sg :=
  if (¬ (x1 < 0)) ∧ (x1 < 2048) then
    lt (m_right σ 1) fun z17 =>
    lt (sst z17.2 0 0 x1) fun s26 =>
    lt (sst s26 0 6 0) fun s31 =>
    s31
  else
    lt ((
      0) : Int32) fun z2 =>
    lt (m_right σ z2) fun z17_1 =>
    z17_1.2
set_option maxHeartbeats 4000000 in
theorem ok_m_start (σ : Sg) (x1 : Int32) (ok : XOK σ) : XOK (m_start σ x1) := by
  unfold m_start
  refine ite_pred (fun hsp => ?_) (fun hsp => ?_)
  · refine lt_pred (fun z17 e17 => ?_)
    have k17 : XOK z17.2 ∧ rg 0 1 z17.1 := by rw [e17]; exact ok_m_right σ 1 ok (rg_w rl_1 (by decide) (by decide))
    have rr17 : rg 1 1 z17.1 := by rw [e17]; exact (show rg 1 1 1 from rl_1)
    refine lt_pred (fun s26 e26 => ?_)
    have k26 : XOK s26 := by rw [e26]; exact xst_0_0 k17.1 (rg_lt_hi (rg_nlt_lo (rg_full x1) (hsp).1 rl_0) (hsp).2 rl_2048)
    refine lt_pred (fun s31 e31 => ?_)
    have k31 : XOK s31 := by rw [e31]; exact xst_0_6 k26 (rg_w rl_0 (by decide) (by decide))
    exact k31
  · refine jn_pred (fun z2 => rg 0 0 z2) (fun z2 h2 => ?_) ?_
    · refine lt_pred (fun z17_1 e17_1 => ?_)
      have k17_1 : XOK z17_1.2 ∧ rg 0 1 z17_1.1 := by rw [e17_1]; exact ok_m_right σ z2 ok (rg_w h2 (by decide) (by decide))
      have rr17_1 : rg 0 0 z17_1.1 := by rw [e17_1]; exact (show rg 0 0 z2 from h2)
      exact k17_1.1
    · exact app_i rl_0

set_option maxHeartbeats 4000000 in
theorem kp_m_start (σ : Sg) (x1 : Int32) {ka kb : Int32} {m : Int} (hk : Kp ka kb m σ) (hm : m ≤ 1500280000) : Kp ka kb m (m_start σ x1) := by
  have hm0 : 0 ≤ m := hk.nn
  show Kp ka kb m (m_start σ x1)
  unfold m_start
  refine ite_pred (fun hsp => ?_) (fun hsp => ?_)
  · refine lt_pred (fun z17 e17 => ?_)
    have q17 : Kp ka kb m z17.2 := by rw [e17]; exact Kp.w (kp_m_right σ 1 hk (by omega)) (by omega)
    refine lt_pred (fun s26 e26 => ?_)
    have q26 : Kp ka kb m s26 := by rw [e26]; exact Kp.same q17 rfl rfl rfl
    refine lt_pred (fun s31 e31 => ?_)
    have q31 : Kp ka kb m s31 := by rw [e31]; exact Kp.same q26 rfl rfl rfl
    exact Kp.w q31 (by omega)
  · refine jn_pred (fun z2 => rg 0 0 z2) (fun z2 h2 => ?_) ?_
    · refine lt_pred (fun z17_1 e17_1 => ?_)
      have q17_1 : Kp ka kb m z17_1.2 := by rw [e17_1]; exact Kp.w (kp_m_right σ z2 hk (by omega)) (by omega)
      exact Kp.w q17_1 (by omega)
    · exact app_i rl_0

def m_reset (σ : Sg) : Sg :=
  lt (sst σ 0 35 0) fun s2 =>
  lt ((
    if (s2 0 8) = 0 then
      s2
    else
      lt (m_restart s2 2) fun s14 =>
      s14) : Sg) fun z9 =>
  z9
set_option maxHeartbeats 4000000 in
theorem ok_m_reset (σ : Sg) (ok : XOK σ) : XOK (m_reset σ) := by
  unfold m_reset
  refine lt_pred (fun s2 e2 => ?_)
  have k2 : XOK s2 := by rw [e2]; exact xst_f0_35 ok
  refine jn_pred (fun z9 => XOK z9) (fun z9 h9 => ?_) ?_
  · exact h9
  · refine ite_pred (fun c9 => ?_) (fun c9 => ?_)
    · exact app_i k2
    · refine lt_pred (fun s14 e14 => ?_)
      have k14 : XOK s14 := by rw [e14]; exact ok_m_restart s2 2 k2 (rg_w rl_2 (by decide) (by decide))
      exact app_i k14

set_option maxHeartbeats 4000000 in
theorem hm_m_reset (σ : Sg) {B m : Int} (hk : HBm B m σ) (hm : m ≤ 1500270000) : HBm B m (m_reset σ) := by
  have hm0 : 0 ≤ m := hk.nn
  show HBm B m (m_reset σ)
  unfold m_reset
  refine lt_pred (fun s2 e2 => ?_)
  have q2 : HBm B m s2 := by rw [e2]; exact HBm.same hk rfl rfl rfl
  refine jn_pred (fun z9 => HBm B m z9) (fun z9 h9 => ?_) ?_
  · exact HBm.w h9 (by omega) (by omega)
  · refine ite_pred (fun c9 => ?_) (fun c9 => ?_)
    · exact app_i (HBm.w q2 (by omega) (by omega))
    · refine lt_pred (fun s14 e14 => ?_)
      have q14 : HBm B m s14 := by rw [e14]; exact HBm.w (hm_m_restart s2 2 q2 (by omega) ) (by omega) (by omega)
      exact app_i (HBm.w q14 (by omega) (by omega))

def m_power (σ : Sg) (x1 : Int32) : Int32 × Sg :=
  lt (sst σ 0 35 0) fun s2 =>
  lt ((s2 0 8) : Int32) fun v9 =>
  lt (sst s2 0 8 x1) fun s12 =>
  lt ((
    if (x1 = 0) ∨ (¬ (v9 = 0)) then
      s12
    else
      lt ((iterN 1280 0 (fun i25_1 a25_1 =>
        lt ((
          if (¬ ((nI i25_1) < 32)) ∧ ((nI i25_1) < 256) then
            a25_1
          else
            lt (sst a25_1 1 ((nI i25_1)).toNatClampNeg 0) fun s51 =>
            s51) : Sg) fun z35 =>
        z35) s12) : Sg) fun z25 =>
      lt (m_restart z25 1) fun s60 =>
      s60) : Sg) fun z16 =>
  (v9, z16)
set_option maxHeartbeats 4000000 in
theorem ok_m_power (σ : Sg) (x1 : Int32) (ok : XOK σ) (hx1 : rg 0 1 x1) : (Pri XOK 0 1) (m_power σ x1) := by
  unfold m_power
  refine lt_pred (fun s2 e2 => ?_)
  have k2 : XOK s2 := by rw [e2]; exact xst_f0_35 ok
  refine lt_pred (fun v9 e9 => ?_)
  have f9 : rg 0 1 v9 := by rw [e9]; exact (xr0_8 k2)
  refine lt_pred (fun s12 e12 => ?_)
  have k12 : XOK s12 := by rw [e12]; exact xst_0_8 k2 hx1
  refine jn_pred (fun z16 => XOK z16) (fun z16 h16 => ?_) ?_
  · exact ⟨h16, f9⟩
  · refine ite_pred (fun c16 => ?_) (fun c16 => ?_)
    · exact app_i k12
    · refine for_pred (N := 1280) (fun i a => XOK a) (fun i25_1 a25_1 hi25 ha25 => ?_) (fun z25 hz25 => ?_) 1280 0 s12 (by omega) k12
      · have fi25 : rg 0 1279 (nI i25_1) := rg_of_nI (by omega) (by omega)
        refine jn_pred (fun z35 => XOK z35) (fun z35 h35 => ?_) ?_
        · exact app_i h35
        · refine ite_pred (fun c35 => ?_) (fun c35 => ?_)
          · exact app_i ha25
          · refine lt_pred (fun s51 e51 => ?_)
            have k51 : XOK s51 := by rw [e51]; exact xst_1 ha25 (rg_w rl_0 (by decide) (by decide))
            exact app_i k51
      · refine lt_pred (fun s60 e60 => ?_)
        have k60 : XOK s60 := by rw [e60]; exact ok_m_restart z25 1 hz25 (rg_w rl_1 (by decide) (by decide))
        exact app_i k60

set_option maxHeartbeats 4000000 in
theorem hm_m_power (σ : Sg) (x1 : Int32) {B m : Int} (hk : HBm B m σ) (hm : m ≤ 1500270000) : HBm B m (m_power σ x1).2 := by
  have hm0 : 0 ≤ m := hk.nn
  show HBmi B m (m_power σ x1)
  unfold m_power
  refine lt_pred (fun s2 e2 => ?_)
  have q2 : HBm B m s2 := by rw [e2]; exact HBm.same hk rfl rfl rfl
  refine lt_pred (fun v9 e9 => ?_)
  refine lt_pred (fun s12 e12 => ?_)
  have q12 : HBm B m s12 := by rw [e12]; exact HBm.same q2 rfl rfl rfl
  refine jn_pred (fun z16 => HBm B m z16) (fun z16 h16 => ?_) ?_
  · exact HBm.w h16 (by omega) (by omega)
  · refine ite_pred (fun c16 => ?_) (fun c16 => ?_)
    · exact app_i (HBm.w q12 (by omega) (by omega))
    · refine for_pred (N := 1280) (fun i a => HBm B m a) (fun i25_1 a25_1 hi25 ha25 => ?_) (fun z25 hz25 => ?_) 1280 0 s12 (by omega) (HBm.w q12 (by omega) (by omega))
      · refine jn_pred (fun z35 => HBm B m z35) (fun z35 h35 => ?_) ?_
        · exact app_i (HBm.w h35 (by omega) (by omega))
        · refine ite_pred (fun c35 => ?_) (fun c35 => ?_)
          · exact app_i (HBm.w ha25 (by omega) (by omega))
          · refine lt_pred (fun s51 e51 => ?_)
            have q51 : HBm B m s51 := by rw [e51]; exact HBm.same ha25 rfl rfl rfl
            exact app_i (HBm.w q51 (by omega) (by omega))
      · refine lt_pred (fun s60 e60 => ?_)
        have q60 : HBm B m s60 := by rw [e60]; exact HBm.w (hm_m_restart z25 1 hz25 (by omega) ) (by omega) (by omega)
        exact app_i (HBm.w q60 (by omega) (by omega))

def m_about (σ : Sg) (x1 : Int32) : Int32 × Sg :=
  if (x1 < 0) ∨ (21 < x1) then
    lt ((
      0) : Int32) fun z2 =>
    lt (m_right σ z2) fun z16 =>
    (0, z16.2)
  else
    lt (m_right σ 1) fun z16_1 =>
    if x1 = 0 then
      ((z16_1.2 0 0), z16_1.2)
    else
      if x1 = 1 then
        ((m_pointer z16_1.2 93), z16_1.2)
      else
        if x1 = 2 then
          lt ((
            if (z16_1.2 0 6) = 0 then
              0
            else
              1) : Int32) fun z140 =>
          (z140, z16_1.2)
        else
          if x1 = 3 then
            ((z16_1.2 0 2), z16_1.2)
          else
            if x1 = 4 then
              ((z16_1.2 0 3), z16_1.2)
            else
              if x1 = 5 then
                ((z16_1.2 0 4), z16_1.2)
              else
                if x1 = 6 then
                  ((z16_1.2 0 5), z16_1.2)
                else
                  if x1 = 7 then
                    ((z16_1.2 0 27), z16_1.2)
                  else
                    if x1 = 8 then
                      lt ((iterN 32 0 (fun i178_1 a178_1 =>
                        lt ((
                          if (z16_1.2 7 ((nI i178_1)).toNatClampNeg) = 0 then
                            0
                          else
                            1) : Int32) fun z191 =>
                        lt ((a178_1 + z191) : Int32) fun v200 =>
                        v200) 0) : Int32) fun z178 =>
                      (z178, z16_1.2)
                    else
                      if x1 = 9 then
                        ((z16_1.2 0 24), z16_1.2)
                      else
                        if x1 = 10 then
                          ((z16_1.2 0 10), z16_1.2)
                        else
                          if x1 = 11 then
                            ((z16_1.2 0 19), z16_1.2)
                          else
                            if x1 = 12 then
                              ((z16_1.2 0 18), z16_1.2)
                            else
                              if x1 = 13 then
                                ((z16_1.2 0 13), z16_1.2)
                              else
                                if x1 = 14 then
                                  ((z16_1.2 0 15), z16_1.2)
                                else
                                  if x1 = 15 then
                                    ((z16_1.2 0 22), z16_1.2)
                                  else
                                    if x1 = 16 then
                                      ((z16_1.2 0 26), z16_1.2)
                                    else
                                      if x1 = 17 then
                                        ((z16_1.2 0 23), z16_1.2)
                                      else
                                        if x1 = 18 then
                                          ((z16_1.2 0 25), z16_1.2)
                                        else
                                          if x1 = 19 then
                                            ((z16_1.2 0 21), z16_1.2)
                                          else
                                            if x1 = 20 then
                                              lt ((
                                                if (z16_1.2 0 8) = 0 then
                                                  0
                                                else
                                                  1) : Int32) fun z268 =>
                                              (z268, z16_1.2)
                                            else
                                              ((m_awaited z16_1.2), z16_1.2)
set_option maxHeartbeats 4000000 in
theorem ok_m_about (σ : Sg) (x1 : Int32) (ok : XOK σ) : (Prt XOK) (m_about σ x1) := by
  unfold m_about
  refine ite_pred (fun hsp => ?_) (fun hsp => ?_)
  · refine jn_pred (fun z2 => rg 0 0 z2) (fun z2 h2 => ?_) ?_
    · refine lt_pred (fun z16 e16 => ?_)
      have k16 : XOK z16.2 ∧ rg 0 1 z16.1 := by rw [e16]; exact ok_m_right σ z2 ok (rg_w h2 (by decide) (by decide))
      have rr16 : rg 0 0 z16.1 := by rw [e16]; exact (show rg 0 0 z2 from h2)
      exact ⟨k16.1, trivial⟩
    · exact app_i rl_0
  · refine lt_pred (fun z16_1 e16_1 => ?_)
    have k16_1 : XOK z16_1.2 ∧ rg 0 1 z16_1.1 := by rw [e16_1]; exact ok_m_right σ 1 ok (rg_w rl_1 (by decide) (by decide))
    have rr16_1 : rg 1 1 z16_1.1 := by rw [e16_1]; exact (show rg 1 1 1 from rl_1)
    refine ite_pred (fun c25_0 => ?_) (fun c25_0 => ?_)
    · exact ⟨k16_1.1, trivial⟩
    · refine ite_pred (fun c25_1 => ?_) (fun c25_1 => ?_)
      · exact ⟨k16_1.1, trivial⟩
      · refine ite_pred (fun c25_2 => ?_) (fun c25_2 => ?_)
        · refine jn_pred (fun z140 => rg 0 1 z140) (fun z140 h140 => ?_) ?_
          · exact ⟨k16_1.1, trivial⟩
          · refine ite_pred (fun c140 => ?_) (fun c140 => ?_)
            · exact app_i (rg_w rl_0 (by decide) (by decide))
            · exact app_i (rg_w rl_1 (by decide) (by decide))
        · refine ite_pred (fun c25_3 => ?_) (fun c25_3 => ?_)
          · exact ⟨k16_1.1, trivial⟩
          · refine ite_pred (fun c25_4 => ?_) (fun c25_4 => ?_)
            · exact ⟨k16_1.1, trivial⟩
            · refine ite_pred (fun c25_5 => ?_) (fun c25_5 => ?_)
              · exact ⟨k16_1.1, trivial⟩
              · refine ite_pred (fun c25_6 => ?_) (fun c25_6 => ?_)
                · exact ⟨k16_1.1, trivial⟩
                · refine ite_pred (fun c25_7 => ?_) (fun c25_7 => ?_)
                  · exact ⟨k16_1.1, trivial⟩
                  · refine ite_pred (fun c25_8 => ?_) (fun c25_8 => ?_)
                    · refine for_pred (N := 32) (fun i a => True) (fun i178_1 a178_1 hi178 ha178 => ?_) (fun z178 hz178 => ?_) 32 0 0 (by omega) trivial
                      · have fi178 : rg 0 31 (nI i178_1) := rg_of_nI (by omega) (by omega)
                        refine jn_pred (fun z191 => rg 0 1 z191) (fun z191 h191 => ?_) ?_
                        · refine lt_pred (fun v200 e200 => ?_)
                          exact app_i trivial
                        · refine ite_pred (fun c191 => ?_) (fun c191 => ?_)
                          · exact app_i (rg_w rl_0 (by decide) (by decide))
                          · exact app_i (rg_w rl_1 (by decide) (by decide))
                      · exact ⟨k16_1.1, trivial⟩
                    · refine ite_pred (fun c25_9 => ?_) (fun c25_9 => ?_)
                      · exact ⟨k16_1.1, trivial⟩
                      · refine ite_pred (fun c25_10 => ?_) (fun c25_10 => ?_)
                        · exact ⟨k16_1.1, trivial⟩
                        · refine ite_pred (fun c25_11 => ?_) (fun c25_11 => ?_)
                          · exact ⟨k16_1.1, trivial⟩
                          · refine ite_pred (fun c25_12 => ?_) (fun c25_12 => ?_)
                            · exact ⟨k16_1.1, trivial⟩
                            · refine ite_pred (fun c25_13 => ?_) (fun c25_13 => ?_)
                              · exact ⟨k16_1.1, trivial⟩
                              · refine ite_pred (fun c25_14 => ?_) (fun c25_14 => ?_)
                                · exact ⟨k16_1.1, trivial⟩
                                · refine ite_pred (fun c25_15 => ?_) (fun c25_15 => ?_)
                                  · exact ⟨k16_1.1, trivial⟩
                                  · refine ite_pred (fun c25_16 => ?_) (fun c25_16 => ?_)
                                    · exact ⟨k16_1.1, trivial⟩
                                    · refine ite_pred (fun c25_17 => ?_) (fun c25_17 => ?_)
                                      · exact ⟨k16_1.1, trivial⟩
                                      · refine ite_pred (fun c25_18 => ?_) (fun c25_18 => ?_)
                                        · exact ⟨k16_1.1, trivial⟩
                                        · refine ite_pred (fun c25_19 => ?_) (fun c25_19 => ?_)
                                          · exact ⟨k16_1.1, trivial⟩
                                          · refine ite_pred (fun c25_20 => ?_) (fun c25_20 => ?_)
                                            · refine jn_pred (fun z268 => rg 0 1 z268) (fun z268 h268 => ?_) ?_
                                              · exact ⟨k16_1.1, trivial⟩
                                              · refine ite_pred (fun c268 => ?_) (fun c268 => ?_)
                                                · exact app_i (rg_w rl_0 (by decide) (by decide))
                                                · exact app_i (rg_w rl_1 (by decide) (by decide))
                                            · exact ⟨k16_1.1, trivial⟩

set_option maxHeartbeats 4000000 in
theorem kp_m_about (σ : Sg) (x1 : Int32) {ka kb : Int32} {m : Int} (hk : Kp ka kb m σ) (hm : m ≤ 1500270000) : Kp ka kb m (m_about σ x1).2 := by
  have hm0 : 0 ≤ m := hk.nn
  show Kpi ka kb m (m_about σ x1)
  unfold m_about
  refine ite_pred (fun hsp => ?_) (fun hsp => ?_)
  · refine jn_pred (fun z2 => rg 0 0 z2) (fun z2 h2 => ?_) ?_
    · refine lt_pred (fun z16 e16 => ?_)
      have q16 : Kp ka kb m z16.2 := by rw [e16]; exact Kp.w (kp_m_right σ z2 hk (by omega)) (by omega)
      exact Kp.w q16 (by omega)
    · exact app_i rl_0
  · refine lt_pred (fun z16_1 e16_1 => ?_)
    have q16_1 : Kp ka kb m z16_1.2 := by rw [e16_1]; exact Kp.w (kp_m_right σ 1 hk (by omega)) (by omega)
    refine ite_pred (fun c25_0 => ?_) (fun c25_0 => ?_)
    · exact Kp.w q16_1 (by omega)
    · refine ite_pred (fun c25_1 => ?_) (fun c25_1 => ?_)
      · exact Kp.w q16_1 (by omega)
      · refine ite_pred (fun c25_2 => ?_) (fun c25_2 => ?_)
        · refine jn_pred (fun z140 => rg 0 1 z140) (fun z140 h140 => ?_) ?_
          · exact Kp.w q16_1 (by omega)
          · refine ite_pred (fun c140 => ?_) (fun c140 => ?_)
            · exact app_i (rg_w rl_0 (by decide) (by decide))
            · exact app_i (rg_w rl_1 (by decide) (by decide))
        · refine ite_pred (fun c25_3 => ?_) (fun c25_3 => ?_)
          · exact Kp.w q16_1 (by omega)
          · refine ite_pred (fun c25_4 => ?_) (fun c25_4 => ?_)
            · exact Kp.w q16_1 (by omega)
            · refine ite_pred (fun c25_5 => ?_) (fun c25_5 => ?_)
              · exact Kp.w q16_1 (by omega)
              · refine ite_pred (fun c25_6 => ?_) (fun c25_6 => ?_)
                · exact Kp.w q16_1 (by omega)
                · refine ite_pred (fun c25_7 => ?_) (fun c25_7 => ?_)
                  · exact Kp.w q16_1 (by omega)
                  · refine ite_pred (fun c25_8 => ?_) (fun c25_8 => ?_)
                    · refine for_pred (N := 32) (fun i a => True) (fun i178_1 a178_1 hi178 ha178 => ?_) (fun z178 hz178 => ?_) 32 0 0 (by omega) trivial
                      · refine jn_pred (fun z191 => rg 0 1 z191) (fun z191 h191 => ?_) ?_
                        · refine lt_pred (fun v200 e200 => ?_)
                          exact app_i trivial
                        · refine ite_pred (fun c191 => ?_) (fun c191 => ?_)
                          · exact app_i (rg_w rl_0 (by decide) (by decide))
                          · exact app_i (rg_w rl_1 (by decide) (by decide))
                      · exact Kp.w q16_1 (by omega)
                    · refine ite_pred (fun c25_9 => ?_) (fun c25_9 => ?_)
                      · exact Kp.w q16_1 (by omega)
                      · refine ite_pred (fun c25_10 => ?_) (fun c25_10 => ?_)
                        · exact Kp.w q16_1 (by omega)
                        · refine ite_pred (fun c25_11 => ?_) (fun c25_11 => ?_)
                          · exact Kp.w q16_1 (by omega)
                          · refine ite_pred (fun c25_12 => ?_) (fun c25_12 => ?_)
                            · exact Kp.w q16_1 (by omega)
                            · refine ite_pred (fun c25_13 => ?_) (fun c25_13 => ?_)
                              · exact Kp.w q16_1 (by omega)
                              · refine ite_pred (fun c25_14 => ?_) (fun c25_14 => ?_)
                                · exact Kp.w q16_1 (by omega)
                                · refine ite_pred (fun c25_15 => ?_) (fun c25_15 => ?_)
                                  · exact Kp.w q16_1 (by omega)
                                  · refine ite_pred (fun c25_16 => ?_) (fun c25_16 => ?_)
                                    · exact Kp.w q16_1 (by omega)
                                    · refine ite_pred (fun c25_17 => ?_) (fun c25_17 => ?_)
                                      · exact Kp.w q16_1 (by omega)
                                      · refine ite_pred (fun c25_18 => ?_) (fun c25_18 => ?_)
                                        · exact Kp.w q16_1 (by omega)
                                        · refine ite_pred (fun c25_19 => ?_) (fun c25_19 => ?_)
                                          · exact Kp.w q16_1 (by omega)
                                          · refine ite_pred (fun c25_20 => ?_) (fun c25_20 => ?_)
                                            · refine jn_pred (fun z268 => rg 0 1 z268) (fun z268 h268 => ?_) ?_
                                              · exact Kp.w q16_1 (by omega)
                                              · refine ite_pred (fun c268 => ?_) (fun c268 => ?_)
                                                · exact app_i (rg_w rl_0 (by decide) (by decide))
                                                · exact app_i (rg_w rl_1 (by decide) (by decide))
                                            · exact Kp.w q16_1 (by omega)

