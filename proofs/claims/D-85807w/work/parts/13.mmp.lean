/-! MODEL: pure functions and their invariant -/
set_option maxRecDepth 100000
def m_thrown (σ : Sg) : Int32 :=
  (σ 0 35)
def m_seen (σ : Sg) (x1 : Int32) : Int32 :=
  if (¬ (x1 < 0)) ∧ (x1 < 1280) then
    if x1 = 198 then
      lt ((
        if 0 < (σ 0 18) then
          (σ 0 16)
        else
          0) : Int32) fun z24 =>
      z24
    else
      if x1 = 35 then
        (((σ 1 37) &&& (σ 1 36)) ||| (((σ 0 9) &&& ((σ 1 36) ^^^ (-1))) &&& 255))
      else
        lt ((
          if x1 = 63 then
            ((σ 1 63) &&& 254)
          else
            (σ 1 (x1).toNatClampNeg)) : Int32) fun z80 =>
        z80
  else
    0
set_option maxHeartbeats 4000000 in
theorem ok_m_seen (σ : Sg) (x1 : Int32) (ok : XOK σ) (hx1 : rg 0 65535 x1) : rg 0 255 (m_seen σ x1) := by
  unfold m_seen
  refine ite_pred (fun c1 => ?_) (fun c1 => ?_)
  · refine ite_pred (fun c17 => ?_) (fun c17 => ?_)
    · refine jn_pred (fun z24 => rg 0 255 z24) (fun z24 h24 => ?_) ?_
      · exact h24
      · refine ite_pred (fun c24 => ?_) (fun c24 => ?_)
        · exact app_i (xr0_16 ok)
        · exact app_i (rg_w rl_0 (by decide) (by decide))
    · refine ite_pred (fun c39 => ?_) (fun c39 => ?_)
      · exact (rg_or 8 (rg_and_r (xr_1 ok _)) (rg_and_r (rg_w (lo2 := 0) rl_255 (by decide) (Int.le_refl _))) (by decide) (by decide) (by decide))
      · refine jn_pred (fun z80 => rg 0 255 z80) (fun z80 h80 => ?_) ?_
        · exact h80
        · refine ite_pred (fun c80 => ?_) (fun c80 => ?_)
          · exact app_i (rg_w (rg_and_r (rg_w (lo2 := 0) rl_254 (by decide) (Int.le_refl _))) (by decide) (by decide))
          · exact app_i (xr_1 ok _)
  · exact (rg_w rl_0 (by decide) (by decide))

def m_showReceived (σ : Sg) : Sg :=
  lt ((
    if 0 < (σ 0 18) then
      128
    else
      0) : Int32) fun z22 =>
  lt (sst σ 1 192 (((σ 1 192) &&& 127) ||| z22)) fun s33 =>
  s33
set_option maxHeartbeats 4000000 in
theorem ok_m_showReceived (σ : Sg) (ok : XOK σ) : XOK (m_showReceived σ) := by
  unfold m_showReceived
  refine jn_pred (fun z22 => rg 0 128 z22) (fun z22 h22 => ?_) ?_
  · refine lt_pred (fun s33 e33 => ?_)
    have k33 : XOK s33 := by rw [e33]; exact xst_1 ok (rg_or 8 (rg_and_r (rg_w (lo2 := 0) rl_127 (by decide) (Int.le_refl _))) h22 (by decide) (by decide) (by decide))
    exact k33
  · refine ite_pred (fun c22 => ?_) (fun c22 => ?_)
    · exact app_i (rg_w rl_128 (by decide) (by decide))
    · exact app_i (rg_w rl_0 (by decide) (by decide))

set_option maxHeartbeats 4000000 in
theorem kp_m_showReceived (σ : Sg) {ka kb : Int32} {m : Int} (hk : Kp ka kb m σ) (hm : m ≤ 1500290000) : Kp ka kb m (m_showReceived σ) := by
  have hm0 : 0 ≤ m := hk.nn
  show Kp ka kb m (m_showReceived σ)
  unfold m_showReceived
  refine jn_pred (fun z22 => True) (fun z22 h22 => ?_) ?_
  · refine lt_pred (fun s33 e33 => ?_)
    have q33 : Kp ka kb m s33 := by rw [e33]; exact Kp.same hk rfl rfl rfl
    exact Kp.w q33 (by omega)
  · refine ite_pred (fun c22 => ?_) (fun c22 => ?_)
    · exact app_i trivial
    · exact app_i trivial

set_option maxHeartbeats 4000000 in
theorem kc_m_showReceived (σ : Sg) : (m_showReceived σ) 0 2 = σ 0 2 + nI 0 := by
  have hk : Kc (σ 0 2) 0 σ := Kc.rf
  show Kc (σ 0 2) 0 (m_showReceived σ)
  generalize σ 0 2 = c0 at hk ⊢
  unfold m_showReceived
  refine jn_pred (fun z22 => True) (fun z22 h22 => ?_) ?_
  · refine lt_pred (fun s33 e33 => ?_)
    have q33 : Kc c0 0 s33 := by rw [e33]; exact Kc.same hk rfl
    exact q33
  · refine ite_pred (fun c22 => ?_) (fun c22 => ?_)
    · exact app_i trivial
    · exact app_i trivial

def m_load (σ : Sg) (x1 : Int32) : Int32 × Sg :=
  lt ((m_seen σ x1) : Int32) fun v5 =>
  lt ((
    if x1 = 198 then
      lt ((
        if 0 < (σ 0 18) then
          lt (sst σ 0 16 (σ 0 17)) fun s25 =>
          lt (sst s25 0 18 ((s25 0 18) - 1)) fun s35 =>
          s35
        else
          σ) : Sg) fun z17 =>
      lt (sst z17 1 192 ((z17 1 192) &&& 247)) fun s51 =>
      lt (m_showReceived s51) fun s53 =>
      s53
    else
      σ) : Sg) fun z10 =>
  (v5, z10)
set_option maxHeartbeats 4000000 in
theorem ok_m_load (σ : Sg) (x1 : Int32) (ok : XOK σ) (hx1 : rg 0 65535 x1) : (Pri XOK 0 255) (m_load σ x1) := by
  unfold m_load
  refine lt_pred (fun v5 e5 => ?_)
  have f5 : rg 0 255 v5 := by rw [e5]; exact (ok_m_seen σ x1 ok hx1)
  refine jn_pred (fun z10 => XOK z10) (fun z10 h10 => ?_) ?_
  · exact ⟨h10, f5⟩
  · refine ite_pred (fun c10 => ?_) (fun c10 => ?_)
    · refine jn_pred (fun z17 => XOK z17) (fun z17 h17 => ?_) ?_
      · refine lt_pred (fun s51 e51 => ?_)
        have k51 : XOK s51 := by rw [e51]; exact xst_1 h17 (rg_w (rg_and_r (rg_w (lo2 := 0) rl_247 (by decide) (Int.le_refl _))) (by decide) (by decide))
        refine lt_pred (fun s53 e53 => ?_)
        have k53 : XOK s53 := by rw [e53]; exact ok_m_showReceived s51 k51
        exact app_i k53
      · refine ite_pred (fun c17 => ?_) (fun c17 => ?_)
        · refine lt_pred (fun s25 e25 => ?_)
          have k25 : XOK s25 := by rw [e25]; exact xst_0_16 ok (xr0_17 ok)
          have y18_25 : rg 1 2 (s25 0 18) := by rw [e25]; exact (show rg 1 2 (σ 0 18) from (rg_lt_lo (xr0_18 ok) c17 rl_0))
          refine lt_pred (fun s35 e35 => ?_)
          have k35 : XOK s35 := by rw [e35]; exact xst_0_18 k25 (rg_w (rg_sub y18_25 rl_1 (by decide) (by decide)) (by decide) (by decide))
          exact app_i k35
        · exact app_i ok
    · exact app_i ok

set_option maxHeartbeats 4000000 in
theorem kp_m_load (σ : Sg) (x1 : Int32) {ka kb : Int32} {m : Int} (hk : Kp ka kb m σ) (hm : m ≤ 1500280000) : Kp ka kb m (m_load σ x1).2 := by
  have hm0 : 0 ≤ m := hk.nn
  show Kpi ka kb m (m_load σ x1)
  unfold m_load
  refine lt_pred (fun v5 e5 => ?_)
  refine jn_pred (fun z10 => Kp ka kb m z10) (fun z10 h10 => ?_) ?_
  · exact Kp.w h10 (by omega)
  · refine ite_pred (fun c10 => ?_) (fun c10 => ?_)
    · refine jn_pred (fun z17 => Kp ka kb m z17) (fun z17 h17 => ?_) ?_
      · refine lt_pred (fun s51 e51 => ?_)
        have q51 : Kp ka kb m s51 := by rw [e51]; exact Kp.same h17 rfl rfl rfl
        refine lt_pred (fun s53 e53 => ?_)
        have q53 : Kp ka kb m s53 := by rw [e53]; exact Kp.w (kp_m_showReceived s51 q51 (by omega)) (by omega)
        exact app_i (Kp.w q53 (by omega))
      · refine ite_pred (fun c17 => ?_) (fun c17 => ?_)
        · refine lt_pred (fun s25 e25 => ?_)
          have q25 : Kp ka kb m s25 := by rw [e25]; exact Kp.same hk rfl rfl rfl
          refine lt_pred (fun s35 e35 => ?_)
          have q35 : Kp ka kb m s35 := by rw [e35]; exact Kp.same q25 rfl rfl rfl
          exact app_i (Kp.w q35 (by omega))
        · exact app_i (Kp.w hk (by omega))
    · exact app_i (Kp.w hk (by omega))

def m_holds (σ : Sg) (x0 : Int32) : Int32 :=
  if ((((((((((((((((x0 = 36) ∨ (x0 = 37)) ∨ (x0 = 62)) ∨ (x0 = 68)) ∨ (x0 = 69)) ∨ (x0 = 70)) ∨ (x0 = 71)) ∨ (x0 = 74)) ∨ (x0 = 75)) ∨ (x0 = 93)) ∨ (x0 = 94)) ∨ (x0 = 95)) ∨ (x0 = 110)) ∨ (x0 = 193)) ∨ (x0 = 194)) ∨ (x0 = 196)) ∨ (x0 = 197) then
    1
  else
    lt ((
      if (x0 < 32) ∨ ((¬ (x0 < 256)) ∧ (x0 < 1280)) then
        1
      else
        0) : Int32) fun z153 =>
    z153
set_option maxHeartbeats 4000000 in
theorem ok_m_holds (σ : Sg) (x0 : Int32) : rg 0 1 (m_holds σ x0) := by
  unfold m_holds
  refine ite_pred (fun c1_36 => ?_) (fun c1_36 => ?_)
  · exact (rg_w rl_1 (by decide) (by decide))
  · have n1_36 : ¬ x0 = 36 := (fun q => c1_36 (Or.inl (Or.inl (Or.inl (Or.inl (Or.inl (Or.inl (Or.inl (Or.inl (Or.inl (Or.inl (Or.inl (Or.inl (Or.inl (Or.inl (Or.inl (Or.inl q)))))))))))))))))
    have n1_37 : ¬ x0 = 37 := (fun q => c1_36 (Or.inl (Or.inl (Or.inl (Or.inl (Or.inl (Or.inl (Or.inl (Or.inl (Or.inl (Or.inl (Or.inl (Or.inl (Or.inl (Or.inl (Or.inl (Or.inr q)))))))))))))))))
    have n1_62 : ¬ x0 = 62 := (fun q => c1_36 (Or.inl (Or.inl (Or.inl (Or.inl (Or.inl (Or.inl (Or.inl (Or.inl (Or.inl (Or.inl (Or.inl (Or.inl (Or.inl (Or.inl (Or.inr q))))))))))))))))
    have n1_68 : ¬ x0 = 68 := (fun q => c1_36 (Or.inl (Or.inl (Or.inl (Or.inl (Or.inl (Or.inl (Or.inl (Or.inl (Or.inl (Or.inl (Or.inl (Or.inl (Or.inl (Or.inr q)))))))))))))))
    have n1_69 : ¬ x0 = 69 := (fun q => c1_36 (Or.inl (Or.inl (Or.inl (Or.inl (Or.inl (Or.inl (Or.inl (Or.inl (Or.inl (Or.inl (Or.inl (Or.inl (Or.inr q))))))))))))))
    have n1_70 : ¬ x0 = 70 := (fun q => c1_36 (Or.inl (Or.inl (Or.inl (Or.inl (Or.inl (Or.inl (Or.inl (Or.inl (Or.inl (Or.inl (Or.inl (Or.inr q)))))))))))))
    have n1_71 : ¬ x0 = 71 := (fun q => c1_36 (Or.inl (Or.inl (Or.inl (Or.inl (Or.inl (Or.inl (Or.inl (Or.inl (Or.inl (Or.inl (Or.inr q))))))))))))
    have n1_74 : ¬ x0 = 74 := (fun q => c1_36 (Or.inl (Or.inl (Or.inl (Or.inl (Or.inl (Or.inl (Or.inl (Or.inl (Or.inl (Or.inr q)))))))))))
    have n1_75 : ¬ x0 = 75 := (fun q => c1_36 (Or.inl (Or.inl (Or.inl (Or.inl (Or.inl (Or.inl (Or.inl (Or.inl (Or.inr q))))))))))
    have n1_93 : ¬ x0 = 93 := (fun q => c1_36 (Or.inl (Or.inl (Or.inl (Or.inl (Or.inl (Or.inl (Or.inl (Or.inr q)))))))))
    have n1_94 : ¬ x0 = 94 := (fun q => c1_36 (Or.inl (Or.inl (Or.inl (Or.inl (Or.inl (Or.inl (Or.inr q))))))))
    have n1_95 : ¬ x0 = 95 := (fun q => c1_36 (Or.inl (Or.inl (Or.inl (Or.inl (Or.inl (Or.inr q)))))))
    have n1_110 : ¬ x0 = 110 := (fun q => c1_36 (Or.inl (Or.inl (Or.inl (Or.inl (Or.inr q))))))
    have n1_193 : ¬ x0 = 193 := (fun q => c1_36 (Or.inl (Or.inl (Or.inl (Or.inr q)))))
    have n1_194 : ¬ x0 = 194 := (fun q => c1_36 (Or.inl (Or.inl (Or.inr q))))
    have n1_196 : ¬ x0 = 196 := (fun q => c1_36 (Or.inl (Or.inr q)))
    have n1_197 : ¬ x0 = 197 := (fun q => c1_36 (Or.inr q))
    refine jn_pred (fun z153 => rg 0 1 z153) (fun z153 h153 => ?_) ?_
    · exact h153
    · refine ite_pred (fun c153 => ?_) (fun c153 => ?_)
      · exact app_i (rg_w rl_1 (by decide) (by decide))
      · exact app_i (rg_w rl_0 (by decide) (by decide))

def m_clearBuffer (σ : Sg) : Sg :=
  lt ((iterN 32 0 (fun i2_1 a2_1 =>
    lt (sst a2_1 7 ((nI i2_1)).toNatClampNeg 0) fun s14 =>
    s14) σ) : Sg) fun z2 =>
  z2
set_option maxHeartbeats 4000000 in
theorem ok_m_clearBuffer (σ : Sg) (ok : XOK σ) : XOK (m_clearBuffer σ) := by
  unfold m_clearBuffer
  refine for_pred (N := 32) (fun i a => XOK a) (fun i2_1 a2_1 hi2 ha2 => ?_) (fun z2 hz2 => ?_) 32 0 σ (by omega) ok
  · have fi2 : rg 0 31 (nI i2_1) := rg_of_nI (by omega) (by omega)
    refine lt_pred (fun s14 e14 => ?_)
    have k14 : XOK s14 := by rw [e14]; exact xst_7 ha2 (rg_w rl_0 (by decide) (by decide))
    exact app_i k14
  · exact hz2

set_option maxHeartbeats 4000000 in
theorem kp_m_clearBuffer (σ : Sg) {ka kb : Int32} {m : Int} (hk : Kp ka kb m σ) (hm : m ≤ 1500290000) : Kp ka kb m (m_clearBuffer σ) := by
  have hm0 : 0 ≤ m := hk.nn
  show Kp ka kb m (m_clearBuffer σ)
  unfold m_clearBuffer
  refine for_pred (N := 32) (fun i a => Kp ka kb m a) (fun i2_1 a2_1 hi2 ha2 => ?_) (fun z2 hz2 => ?_) 32 0 σ (by omega) (Kp.w hk (by omega))
  · refine lt_pred (fun s14 e14 => ?_)
    have q14 : Kp ka kb m s14 := by rw [e14]; exact Kp.same ha2 rfl rfl rfl
    exact app_i (Kp.w q14 (by omega))
  · exact Kp.w hz2 (by omega)

set_option maxHeartbeats 4000000 in
theorem kc_m_clearBuffer (σ : Sg) : (m_clearBuffer σ) 0 2 = σ 0 2 + nI 0 := by
  have hk : Kc (σ 0 2) 0 σ := Kc.rf
  show Kc (σ 0 2) 0 (m_clearBuffer σ)
  generalize σ 0 2 = c0 at hk ⊢
  unfold m_clearBuffer
  refine for_pred (N := 32) (fun i a => Kc c0 0 a) (fun i2_1 a2_1 hi2 ha2 => ?_) (fun z2 hz2 => ?_) 32 0 σ (by omega) hk
  · refine lt_pred (fun s14 e14 => ?_)
    have q14 : Kc c0 0 s14 := by rw [e14]; exact Kc.same ha2 rfl
    exact app_i q14
  · exact hz2

def m_holdDog (σ : Sg) : Sg :=
  lt (sst σ 1 96 ((σ 1 96) ||| ((σ 1 84) &&& 8))) fun s19 =>
  s19
set_option maxHeartbeats 4000000 in
theorem ok_m_holdDog (σ : Sg) (ok : XOK σ) : XOK (m_holdDog σ) := by
  unfold m_holdDog
  refine lt_pred (fun s19 e19 => ?_)
  have k19 : XOK s19 := by rw [e19]; exact xst_1 ok (rg_or 8 (xr_1 ok _) (rg_and_r (rg_w (lo2 := 0) rl_8 (by decide) (Int.le_refl _))) (by decide) (by decide) (by decide))
  exact k19

set_option maxHeartbeats 4000000 in
theorem kp_m_holdDog (σ : Sg) {ka kb : Int32} {m : Int} (hk : Kp ka kb m σ) (hm : m ≤ 1500290000) : Kp ka kb m (m_holdDog σ) := by
  have hm0 : 0 ≤ m := hk.nn
  show Kp ka kb m (m_holdDog σ)
  unfold m_holdDog
  refine lt_pred (fun s19 e19 => ?_)
  have q19 : Kp ka kb m s19 := by rw [e19]; exact Kp.same hk rfl rfl rfl
  exact Kp.w q19 (by omega)

set_option maxHeartbeats 4000000 in
theorem kc_m_holdDog (σ : Sg) : (m_holdDog σ) 0 2 = σ 0 2 + nI 0 := by
  have hk : Kc (σ 0 2) 0 σ := Kc.rf
  show Kc (σ 0 2) 0 (m_holdDog σ)
  generalize σ 0 2 = c0 at hk ⊢
  unfold m_holdDog
  refine lt_pred (fun s19 e19 => ?_)
  have q19 : Kc c0 0 s19 := by rw [e19]; exact Kc.same hk rfl
  exact q19

def m_restart (σ : Sg) (x1 : Int32) : Sg :=
  lt ((σ 1 84) : Int32) fun v7 =>
  lt ((iterN 224 32 (fun i11_1 a11_1 =>
    lt (sst a11_1 1 ((nI i11_1)).toNatClampNeg 0) fun s24 =>
    s24) σ) : Sg) fun z11 =>
  lt (sst z11 1 192 32) fun s40 =>
  lt ((
    if x1 = 1 then
      1
    else
      (v7 ||| x1)) : Int32) fun z49 =>
  lt (sst s40 1 84 z49) fun s59 =>
  lt ((
    if (s59 0 29) = 1 then
      1536
    else
      0) : Int32) fun z66 =>
  lt (sst s59 0 0 z66) fun s76 =>
  lt (sst s76 0 6 0) fun s81 =>
  lt (sst s81 0 7 0) fun s86 =>
  lt (sst s86 0 27 0) fun s91 =>
  lt (sst s91 0 10 0) fun s96 =>
  lt (sst s96 0 24 0) fun s101 =>
  lt (sst s101 0 22 0) fun s106 =>
  lt (sst s106 0 26 0) fun s111 =>
  lt (sst s111 0 23 0) fun s116 =>
  lt (sst s116 0 25 0) fun s121 =>
  lt (sst s121 0 21 0) fun s126 =>
  lt (sst s126 0 11 (-1)) fun s131 =>
  lt (sst s131 0 13 0) fun s136 =>
  lt (sst s136 0 15 0) fun s141 =>
  lt (sst s141 0 18 0) fun s146 =>
  lt (m_clearBuffer s146) fun s150 =>
  lt (m_holdDog s150) fun s154 =>
  s154
set_option maxHeartbeats 4000000 in
theorem ok_m_restart (σ : Sg) (x1 : Int32) (ok : XOK σ) (hx1 : rg 0 8 x1) : XOK (m_restart σ x1) := by
  unfold m_restart
  refine lt_pred (fun v7 e7 => ?_)
  have f7 : rg 0 255 v7 := by rw [e7]; exact (xr_1 ok _)
  refine for_pred (N := 256) (fun i a => XOK a) (fun i11_1 a11_1 hi11 ha11 => ?_) (fun z11 hz11 => ?_) 224 32 σ (by omega) ok
  · have fi11 : rg 0 255 (nI i11_1) := rg_of_nI (by omega) (by omega)
    refine lt_pred (fun s24 e24 => ?_)
    have k24 : XOK s24 := by rw [e24]; exact xst_1 ha11 (rg_w rl_0 (by decide) (by decide))
    exact app_i k24
  · refine lt_pred (fun s40 e40 => ?_)
    have k40 : XOK s40 := by rw [e40]; exact xst_1 hz11 (rg_w rl_32 (by decide) (by decide))
    refine jn_pred (fun z49 => rg 0 255 z49) (fun z49 h49 => ?_) ?_
    · refine lt_pred (fun s59 e59 => ?_)
      have k59 : XOK s59 := by rw [e59]; exact xst_1 k40 h49
      refine jn_pred (fun z66 => rg 0 1536 z66) (fun z66 h66 => ?_) ?_
      · refine lt_pred (fun s76 e76 => ?_)
        have k76 : XOK s76 := by rw [e76]; exact xst_0_0 k59 (rg_w h66 (by decide) (by decide))
        refine lt_pred (fun s81 e81 => ?_)
        have k81 : XOK s81 := by rw [e81]; exact xst_0_6 k76 (rg_w rl_0 (by decide) (by decide))
        refine lt_pred (fun s86 e86 => ?_)
        have k86 : XOK s86 := by rw [e86]; exact xst_0_7 k81 (rg_w rl_0 (by decide) (by decide))
        refine lt_pred (fun s91 e91 => ?_)
        have k91 : XOK s91 := by rw [e91]; exact xst_f0_27 k86
        refine lt_pred (fun s96 e96 => ?_)
        have k96 : XOK s96 := by rw [e96]; exact xst_f0_10 k91
        refine lt_pred (fun s101 e101 => ?_)
        have k101 : XOK s101 := by rw [e101]; exact xst_f0_24 k96
        refine lt_pred (fun s106 e106 => ?_)
        have k106 : XOK s106 := by rw [e106]; exact xst_f0_22 k101
        refine lt_pred (fun s111 e111 => ?_)
        have k111 : XOK s111 := by rw [e111]; exact xst_f0_26 k106
        refine lt_pred (fun s116 e116 => ?_)
        have k116 : XOK s116 := by rw [e116]; exact xst_f0_23 k111
        refine lt_pred (fun s121 e121 => ?_)
        have k121 : XOK s121 := by rw [e121]; exact xst_f0_25 k116
        refine lt_pred (fun s126 e126 => ?_)
        have k126 : XOK s126 := by rw [e126]; exact xst_f0_21 k121
        refine lt_pred (fun s131 e131 => ?_)
        have k131 : XOK s131 := by rw [e131]; exact xst_0_11 k126 (rg_w rl_m1 (by decide) (by decide))
        refine lt_pred (fun s136 e136 => ?_)
        have k136 : XOK s136 := by rw [e136]; exact xst_f0_13 k131
        refine lt_pred (fun s141 e141 => ?_)
        have k141 : XOK s141 := by rw [e141]; exact xst_f0_15 k136
        refine lt_pred (fun s146 e146 => ?_)
        have k146 : XOK s146 := by rw [e146]; exact xst_0_18 k141 (rg_w rl_0 (by decide) (by decide))
        refine lt_pred (fun s150 e150 => ?_)
        have k150 : XOK s150 := by rw [e150]; exact ok_m_clearBuffer s146 k146
        refine lt_pred (fun s154 e154 => ?_)
        have k154 : XOK s154 := by rw [e154]; exact ok_m_holdDog s150 k150
        exact k154
      · refine ite_pred (fun c66 => ?_) (fun c66 => ?_)
        · exact app_i (rg_w rl_1536 (by decide) (by decide))
        · exact app_i (rg_w rl_0 (by decide) (by decide))
    · refine ite_pred (fun c49 => ?_) (fun c49 => ?_)
      · exact app_i (rg_w rl_1 (by decide) (by decide))
      · exact app_i (rg_or 8 f7 hx1 (by decide) (by decide) (by decide))

set_option maxHeartbeats 4000000 in
theorem hm_m_restart (σ : Sg) (x1 : Int32) {B m : Int} (hk : HBm B m σ) (hm : m ≤ 1500280000) : HBm B m (m_restart σ x1) := by
  have hm0 : 0 ≤ m := hk.nn
  show HBm B m (m_restart σ x1)
  unfold m_restart
  refine lt_pred (fun v7 e7 => ?_)
  refine for_pred (N := 256) (fun i a => HBm B m a) (fun i11_1 a11_1 hi11 ha11 => ?_) (fun z11 hz11 => ?_) 224 32 σ (by omega) (HBm.w hk (by omega) (by omega))
  · refine lt_pred (fun s24 e24 => ?_)
    have q24 : HBm B m s24 := by rw [e24]; exact HBm.same ha11 rfl rfl rfl
    exact app_i (HBm.w q24 (by omega) (by omega))
  · refine lt_pred (fun s40 e40 => ?_)
    have q40 : HBm B m s40 := by rw [e40]; exact HBm.same hz11 rfl rfl rfl
    refine jn_pred (fun z49 => True) (fun z49 h49 => ?_) ?_
    · refine lt_pred (fun s59 e59 => ?_)
      have q59 : HBm B m s59 := by rw [e59]; exact HBm.same q40 rfl rfl rfl
      refine jn_pred (fun z66 => True) (fun z66 h66 => ?_) ?_
      · refine lt_pred (fun s76 e76 => ?_)
        have q76 : HBm B m s76 := by rw [e76]; exact HBm.same q59 rfl rfl rfl
        refine lt_pred (fun s81 e81 => ?_)
        have q81 : HBm B m s81 := by rw [e81]; exact HBm.same q76 rfl rfl rfl
        refine lt_pred (fun s86 e86 => ?_)
        have q86 : HBm B m s86 := by rw [e86]; exact HBm.same q81 rfl rfl rfl
        refine lt_pred (fun s91 e91 => ?_)
        have q91 : HBm B m s91 := by rw [e91]; exact HBm.same q86 rfl rfl rfl
        refine lt_pred (fun s96 e96 => ?_)
        have q96 : HBm B m s96 := by rw [e96]; exact HBm.same q91 rfl rfl rfl
        refine lt_pred (fun s101 e101 => ?_)
        have q101 : HBm B m s101 := by rw [e101]; exact HBm.same q96 rfl rfl rfl
        refine lt_pred (fun s106 e106 => ?_)
        have q106 : HBm B m s106 := by rw [e106]; exact HBm.same q101 rfl rfl rfl
        refine lt_pred (fun s111 e111 => ?_)
        have q111 : HBm B m s111 := by rw [e111]; exact HBm.same q106 rfl rfl rfl
        refine lt_pred (fun s116 e116 => ?_)
        have q116 : HBm B m s116 := by rw [e116]; exact HBm.same q111 rfl rfl rfl
        refine lt_pred (fun s121 e121 => ?_)
        have q121 : HBm B m s121 := by rw [e121]; exact HBm.same q116 rfl rfl rfl
        refine lt_pred (fun s126 e126 => ?_)
        have q126 : HBm B m s126 := by rw [e126]; exact HBm.same q121 rfl rfl rfl
        refine lt_pred (fun s131 e131 => ?_)
        have q131 : HBm B m s131 := by rw [e131]; exact HBm.same q126 rfl rfl rfl
        refine lt_pred (fun s136 e136 => ?_)
        have q136 : HBm B m s136 := by rw [e136]; exact HBm.z13 q131
        refine lt_pred (fun s141 e141 => ?_)
        have q141 : HBm B m s141 := by rw [e141]; exact HBm.same q136 rfl rfl rfl
        refine lt_pred (fun s146 e146 => ?_)
        have q146 : HBm B m s146 := by rw [e146]; exact HBm.same q141 rfl rfl rfl
        refine lt_pred (fun s150 e150 => ?_)
        have q150 : HBm B m s150 := by rw [e150]; exact HBm.w (HBm.kp q146 (kp_m_clearBuffer s146 (ka := s146 0 20) (kb := s146 0 13) ⟨rfl, rfl, q146.2⟩ (by omega))) (by omega) (by omega)
        refine lt_pred (fun s154 e154 => ?_)
        have q154 : HBm B m s154 := by rw [e154]; exact HBm.w (HBm.kp q150 (kp_m_holdDog s150 (ka := s150 0 20) (kb := s150 0 13) ⟨rfl, rfl, q150.2⟩ (by omega))) (by omega) (by omega)
        exact HBm.w q154 (by omega) (by omega)
      · refine ite_pred (fun c66 => ?_) (fun c66 => ?_)
        · exact app_i trivial
        · exact app_i trivial
    · refine ite_pred (fun c49 => ?_) (fun c49 => ?_)
      · exact app_i trivial
      · exact app_i trivial

set_option maxHeartbeats 4000000 in
theorem kc_m_restart (σ : Sg) (x1 : Int32) : (m_restart σ x1) 0 2 = σ 0 2 + nI 0 := by
  have hk : Kc (σ 0 2) 0 σ := Kc.rf
  show Kc (σ 0 2) 0 (m_restart σ x1)
  generalize σ 0 2 = c0 at hk ⊢
  unfold m_restart
  refine lt_pred (fun v7 e7 => ?_)
  refine for_pred (N := 256) (fun i a => Kc c0 0 a) (fun i11_1 a11_1 hi11 ha11 => ?_) (fun z11 hz11 => ?_) 224 32 σ (by omega) hk
  · refine lt_pred (fun s24 e24 => ?_)
    have q24 : Kc c0 0 s24 := by rw [e24]; exact Kc.same ha11 rfl
    exact app_i q24
  · refine lt_pred (fun s40 e40 => ?_)
    have q40 : Kc c0 0 s40 := by rw [e40]; exact Kc.same hz11 rfl
    refine jn_pred (fun z49 => True) (fun z49 h49 => ?_) ?_
    · refine lt_pred (fun s59 e59 => ?_)
      have q59 : Kc c0 0 s59 := by rw [e59]; exact Kc.same q40 rfl
      refine jn_pred (fun z66 => True) (fun z66 h66 => ?_) ?_
      · refine lt_pred (fun s76 e76 => ?_)
        have q76 : Kc c0 0 s76 := by rw [e76]; exact Kc.same q59 rfl
        refine lt_pred (fun s81 e81 => ?_)
        have q81 : Kc c0 0 s81 := by rw [e81]; exact Kc.same q76 rfl
        refine lt_pred (fun s86 e86 => ?_)
        have q86 : Kc c0 0 s86 := by rw [e86]; exact Kc.same q81 rfl
        refine lt_pred (fun s91 e91 => ?_)
        have q91 : Kc c0 0 s91 := by rw [e91]; exact Kc.same q86 rfl
        refine lt_pred (fun s96 e96 => ?_)
        have q96 : Kc c0 0 s96 := by rw [e96]; exact Kc.same q91 rfl
        refine lt_pred (fun s101 e101 => ?_)
        have q101 : Kc c0 0 s101 := by rw [e101]; exact Kc.same q96 rfl
        refine lt_pred (fun s106 e106 => ?_)
        have q106 : Kc c0 0 s106 := by rw [e106]; exact Kc.same q101 rfl
        refine lt_pred (fun s111 e111 => ?_)
        have q111 : Kc c0 0 s111 := by rw [e111]; exact Kc.same q106 rfl
        refine lt_pred (fun s116 e116 => ?_)
        have q116 : Kc c0 0 s116 := by rw [e116]; exact Kc.same q111 rfl
        refine lt_pred (fun s121 e121 => ?_)
        have q121 : Kc c0 0 s121 := by rw [e121]; exact Kc.same q116 rfl
        refine lt_pred (fun s126 e126 => ?_)
        have q126 : Kc c0 0 s126 := by rw [e126]; exact Kc.same q121 rfl
        refine lt_pred (fun s131 e131 => ?_)
        have q131 : Kc c0 0 s131 := by rw [e131]; exact Kc.same q126 rfl
        refine lt_pred (fun s136 e136 => ?_)
        have q136 : Kc c0 0 s136 := by rw [e136]; exact Kc.same q131 rfl
        refine lt_pred (fun s141 e141 => ?_)
        have q141 : Kc c0 0 s141 := by rw [e141]; exact Kc.same q136 rfl
        refine lt_pred (fun s146 e146 => ?_)
        have q146 : Kc c0 0 s146 := by rw [e146]; exact Kc.same q141 rfl
        refine lt_pred (fun s150 e150 => ?_)
        have q150 : Kc c0 0 s150 := by rw [e150]; exact Kc.tr q146 (kc_m_clearBuffer s146)
        refine lt_pred (fun s154 e154 => ?_)
        have q154 : Kc c0 0 s154 := by rw [e154]; exact Kc.tr q150 (kc_m_holdDog s150)
        exact q154
      · refine ite_pred (fun c66 => ?_) (fun c66 => ?_)
        · exact app_i trivial
        · exact app_i trivial
    · refine ite_pred (fun c49 => ?_) (fun c49 => ?_)
      · exact app_i trivial
      · exact app_i trivial

def m_storeRom (σ : Sg) (x1 : Int32) : Sg :=
  lt ((
    if ((σ 1 63) &&& 4) = 0 then
      0
    else
      1) : Int32) fun z9 =>
  lt (sst σ 1 63 (((σ 1 63) &&& 247) ||| (x1 &&& 8))) fun s40 =>
  lt ((
    if (x1 &&& 4) = 0 then
      s40
    else
      lt (sst s40 1 63 ((s40 1 63) ||| 4)) fun s57 =>
      lt (sst s57 0 21 4) fun s60 =>
      s60) : Sg) fun z44 =>
  lt ((
    if ((x1 &&& 2) = 0) ∨ ((z9 = 0) ∨ (¬ (((z44 1 63) &&& 2) = 0))) then
      z44
    else
      lt (sst z44 3 ((z44 1 65)).toNatClampNeg (z44 1 64)) fun s103 =>
      lt (sst s103 1 63 (((s103 1 63) &&& 251) ||| 2)) fun s123 =>
      lt (sst s123 0 21 0) fun s126 =>
      lt (sst s126 0 22 3400) fun s133 =>
      s133) : Sg) fun z66 =>
  lt ((
    if ((x1 &&& 1) = 0) ∨ (¬ (((z66 1 63) &&& 2) = 0)) then
      z66
    else
      lt (sst z66 1 64 (z66 3 ((z66 1 65)).toNatClampNeg)) fun s172 =>
      lt (sst s172 0 1 ((s172 0 1) + 4)) fun s180 =>
      s180) : Sg) fun z139 =>
  z139
set_option maxHeartbeats 4000000 in
theorem ok_m_storeRom (σ : Sg) (x1 : Int32) (ok : XOK σ) (hx1 : rg 0 255 x1) : XOK (m_storeRom σ x1) := by
  unfold m_storeRom
  refine jn_pred (fun z9 => rg 0 1 z9) (fun z9 h9 => ?_) ?_
  · refine lt_pred (fun s40 e40 => ?_)
    have k40 : XOK s40 := by rw [e40]; exact xst_1 ok (rg_or 8 (rg_and_r (rg_w (lo2 := 0) rl_247 (by decide) (Int.le_refl _))) (rg_and_r (rg_w (lo2 := 0) rl_8 (by decide) (Int.le_refl _))) (by decide) (by decide) (by decide))
    refine jn_pred (fun z44 => XOK z44) (fun z44 h44 => ?_) ?_
    · refine jn_pred (fun z66 => XOK z66) (fun z66 h66 => ?_) ?_
      · refine jn_pred (fun z139 => XOK z139) (fun z139 h139 => ?_) ?_
        · exact h139
        · refine ite_pred (fun c139 => ?_) (fun c139 => ?_)
          · exact app_i h66
          · refine lt_pred (fun s172 e172 => ?_)
            have k172 : XOK s172 := by rw [e172]; exact xst_1 h66 (xr_3 h66 _)
            refine lt_pred (fun s180 e180 => ?_)
            have k180 : XOK s180 := by rw [e180]; exact xst_f0_1 k172
            exact app_i k180
      · refine ite_pred (fun c66 => ?_) (fun c66 => ?_)
        · exact app_i h44
        · refine lt_pred (fun s103 e103 => ?_)
          have k103 : XOK s103 := by rw [e103]; exact xst_3 h44 (xr_1 h44 _)
          refine lt_pred (fun s123 e123 => ?_)
          have k123 : XOK s123 := by rw [e123]; exact xst_1 k103 (rg_or 8 (rg_and_r (rg_w (lo2 := 0) rl_251 (by decide) (Int.le_refl _))) (rg_w (lo2 := 0) rl_2 (by decide) (Int.le_refl _)) (by decide) (by decide) (by decide))
          refine lt_pred (fun s126 e126 => ?_)
          have k126 : XOK s126 := by rw [e126]; exact xst_f0_21 k123
          refine lt_pred (fun s133 e133 => ?_)
          have k133 : XOK s133 := by rw [e133]; exact xst_f0_22 k126
          exact app_i k133
    · refine ite_pred (fun c44 => ?_) (fun c44 => ?_)
      · exact app_i k40
      · refine lt_pred (fun s57 e57 => ?_)
        have k57 : XOK s57 := by rw [e57]; exact xst_1 k40 (rg_or 8 (xr_1 k40 _) (rg_w (lo2 := 0) rl_4 (by decide) (Int.le_refl _)) (by decide) (by decide) (by decide))
        refine lt_pred (fun s60 e60 => ?_)
        have k60 : XOK s60 := by rw [e60]; exact xst_f0_21 k57
        exact app_i k60
  · refine ite_pred (fun c9 => ?_) (fun c9 => ?_)
    · exact app_i (rg_w rl_0 (by decide) (by decide))
    · exact app_i (rg_w rl_1 (by decide) (by decide))

set_option maxHeartbeats 4000000 in
theorem kp_m_storeRom (σ : Sg) (x1 : Int32) {ka kb : Int32} {m : Int} (hk : Kp ka kb m σ) (hm : m ≤ 1500290000) : Kp ka kb (m + 4) (m_storeRom σ x1) := by
  have hm0 : 0 ≤ m := hk.nn
  show Kp ka kb (m + 4) (m_storeRom σ x1)
  unfold m_storeRom
  refine jn_pred (fun z9 => True) (fun z9 h9 => ?_) ?_
  · refine lt_pred (fun s40 e40 => ?_)
    have q40 : Kp ka kb m s40 := by rw [e40]; exact Kp.same hk rfl rfl rfl
    refine jn_pred (fun z44 => Kp ka kb m z44) (fun z44 h44 => ?_) ?_
    · refine jn_pred (fun z66 => Kp ka kb m z66) (fun z66 h66 => ?_) ?_
      · refine jn_pred (fun z139 => Kp ka kb (m + 4) z139) (fun z139 h139 => ?_) ?_
        · exact Kp.w h139 (by omega)
        · refine ite_pred (fun c139 => ?_) (fun c139 => ?_)
          · exact app_i (Kp.w h66 (by omega))
          · refine lt_pred (fun s172 e172 => ?_)
            have q172 : Kp ka kb m s172 := by rw [e172]; exact Kp.same h66 rfl rfl rfl
            refine lt_pred (fun s180 e180 => ?_)
            have q180 : Kp ka kb (m + 4) s180 := by rw [e180]; exact Kp.add q172 rl_4 (by omega) (by omega)
            exact app_i (Kp.w q180 (by omega))
      · refine ite_pred (fun c66 => ?_) (fun c66 => ?_)
        · exact app_i (Kp.w h44 (by omega))
        · refine lt_pred (fun s103 e103 => ?_)
          have q103 : Kp ka kb m s103 := by rw [e103]; exact Kp.same h44 rfl rfl rfl
          refine lt_pred (fun s123 e123 => ?_)
          have q123 : Kp ka kb m s123 := by rw [e123]; exact Kp.same q103 rfl rfl rfl
          refine lt_pred (fun s126 e126 => ?_)
          have q126 : Kp ka kb m s126 := by rw [e126]; exact Kp.same q123 rfl rfl rfl
          refine lt_pred (fun s133 e133 => ?_)
          have q133 : Kp ka kb m s133 := by rw [e133]; exact Kp.same q126 rfl rfl rfl
          exact app_i (Kp.w q133 (by omega))
    · refine ite_pred (fun c44 => ?_) (fun c44 => ?_)
      · exact app_i (Kp.w q40 (by omega))
      · refine lt_pred (fun s57 e57 => ?_)
        have q57 : Kp ka kb m s57 := by rw [e57]; exact Kp.same q40 rfl rfl rfl
        refine lt_pred (fun s60 e60 => ?_)
        have q60 : Kp ka kb m s60 := by rw [e60]; exact Kp.same q57 rfl rfl rfl
        exact app_i (Kp.w q60 (by omega))
  · refine ite_pred (fun c9 => ?_) (fun c9 => ?_)
    · exact app_i trivial
    · exact app_i trivial

def m_storeVectors (σ : Sg) (x1 : Int32) : Sg :=
  if (x1 &&& 1) = 0 then
    lt ((
      if ((σ 1 85) &&& 1) = 0 then
        σ
      else
        lt (sst σ 1 85 (x1 &&& 2)) fun s44 =>
        lt (sst s44 0 25 0) fun s47 =>
        s47) : Sg) fun z32 =>
    z32
  else
    lt (sst σ 1 85 ((σ 1 85) ||| 1)) fun s16 =>
    lt (sst s16 0 25 4) fun s19 =>
    s19
set_option maxHeartbeats 4000000 in
theorem ok_m_storeVectors (σ : Sg) (x1 : Int32) (ok : XOK σ) (hx1 : rg 0 255 x1) : XOK (m_storeVectors σ x1) := by
  unfold m_storeVectors
  refine ite_pred (fun c3 => ?_) (fun c3 => ?_)
  · refine jn_pred (fun z32 => XOK z32) (fun z32 h32 => ?_) ?_
    · exact h32
    · refine ite_pred (fun c32 => ?_) (fun c32 => ?_)
      · exact app_i ok
      · refine lt_pred (fun s44 e44 => ?_)
        have k44 : XOK s44 := by rw [e44]; exact xst_1 ok (rg_w (rg_and_r (rg_w (lo2 := 0) rl_2 (by decide) (Int.le_refl _))) (by decide) (by decide))
        refine lt_pred (fun s47 e47 => ?_)
        have k47 : XOK s47 := by rw [e47]; exact xst_f0_25 k44
        exact app_i k47
  · refine lt_pred (fun s16 e16 => ?_)
    have k16 : XOK s16 := by rw [e16]; exact xst_1 ok (rg_or 8 (xr_1 ok _) (rg_w (lo2 := 0) rl_1 (by decide) (Int.le_refl _)) (by decide) (by decide) (by decide))
    refine lt_pred (fun s19 e19 => ?_)
    have k19 : XOK s19 := by rw [e19]; exact xst_f0_25 k16
    exact k19

set_option maxHeartbeats 4000000 in
theorem kp_m_storeVectors (σ : Sg) (x1 : Int32) {ka kb : Int32} {m : Int} (hk : Kp ka kb m σ) (hm : m ≤ 1500290000) : Kp ka kb m (m_storeVectors σ x1) := by
  have hm0 : 0 ≤ m := hk.nn
  show Kp ka kb m (m_storeVectors σ x1)
  unfold m_storeVectors
  refine ite_pred (fun c3 => ?_) (fun c3 => ?_)
  · refine jn_pred (fun z32 => Kp ka kb m z32) (fun z32 h32 => ?_) ?_
    · exact Kp.w h32 (by omega)
    · refine ite_pred (fun c32 => ?_) (fun c32 => ?_)
      · exact app_i (Kp.w hk (by omega))
      · refine lt_pred (fun s44 e44 => ?_)
        have q44 : Kp ka kb m s44 := by rw [e44]; exact Kp.same hk rfl rfl rfl
        refine lt_pred (fun s47 e47 => ?_)
        have q47 : Kp ka kb m s47 := by rw [e47]; exact Kp.same q44 rfl rfl rfl
        exact app_i (Kp.w q47 (by omega))
  · refine lt_pred (fun s16 e16 => ?_)
    have q16 : Kp ka kb m s16 := by rw [e16]; exact Kp.same hk rfl rfl rfl
    refine lt_pred (fun s19 e19 => ?_)
    have q19 : Kp ka kb m s19 := by rw [e19]; exact Kp.same q16 rfl rfl rfl
    exact Kp.w q19 (by omega)

def m_storeFlash (σ : Sg) (x1 : Int32) : Sg :=
  if 0 < (σ 0 27) then
    lt (sst σ 1 87 (((σ 1 87) &&& 127) ||| (x1 &&& 128))) fun s29 =>
    s29
  else
    lt (sst σ 1 87 (((σ 1 87) &&& 96) ||| (x1 &&& 159))) fun s53 =>
    lt ((
      if (x1 &&& 1) = 0 then
        0
      else
        4) : Int32) fun z58 =>
    lt (sst s53 0 26 z58) fun s66 =>
    s66
set_option maxHeartbeats 4000000 in
theorem ok_m_storeFlash (σ : Sg) (x1 : Int32) (ok : XOK σ) (hx1 : rg 0 255 x1) : XOK (m_storeFlash σ x1) := by
  unfold m_storeFlash
  refine ite_pred (fun c4 => ?_) (fun c4 => ?_)
  · refine lt_pred (fun s29 e29 => ?_)
    have k29 : XOK s29 := by rw [e29]; exact xst_1 ok (rg_or 8 (rg_and_r (rg_w (lo2 := 0) rl_127 (by decide) (Int.le_refl _))) (rg_and_r (rg_w (lo2 := 0) rl_128 (by decide) (Int.le_refl _))) (by decide) (by decide) (by decide))
    have y27_29 : rg 1 2147483647 (s29 0 27) := by rw [e29]; exact (show rg 1 2147483647 (σ 0 27) from (rg_lt_lo (rg_full (σ 0 27)) c4 rl_0))
    exact k29
  · refine lt_pred (fun s53 e53 => ?_)
    have k53 : XOK s53 := by rw [e53]; exact xst_1 ok (rg_or 8 (rg_and_r (rg_w (lo2 := 0) rl_96 (by decide) (Int.le_refl _))) (rg_and_r (rg_w (lo2 := 0) rl_159 (by decide) (Int.le_refl _))) (by decide) (by decide) (by decide))
    have y27_53 : rg (-2147483648) 0 (s53 0 27) := by rw [e53]; exact (show rg (-2147483648) 0 (σ 0 27) from (rg_nlt_hi (rg_full (σ 0 27)) c4 rl_0))
    refine jn_pred (fun z58 => rg 0 4 z58) (fun z58 h58 => ?_) ?_
    · refine lt_pred (fun s66 e66 => ?_)
      have k66 : XOK s66 := by rw [e66]; exact xst_f0_26 k53
      have y27_66 : rg (-2147483648) 0 (s66 0 27) := by rw [e66]; exact (show rg (-2147483648) 0 (s53 0 27) from y27_53)
      exact k66
    · refine ite_pred (fun c58 => ?_) (fun c58 => ?_)
      · exact app_i (rg_w rl_0 (by decide) (by decide))
      · exact app_i (rg_w rl_4 (by decide) (by decide))

set_option maxHeartbeats 4000000 in
theorem kp_m_storeFlash (σ : Sg) (x1 : Int32) {ka kb : Int32} {m : Int} (hk : Kp ka kb m σ) (hm : m ≤ 1500290000) : Kp ka kb m (m_storeFlash σ x1) := by
  have hm0 : 0 ≤ m := hk.nn
  show Kp ka kb m (m_storeFlash σ x1)
  unfold m_storeFlash
  refine ite_pred (fun c4 => ?_) (fun c4 => ?_)
  · refine lt_pred (fun s29 e29 => ?_)
    have q29 : Kp ka kb m s29 := by rw [e29]; exact Kp.same hk rfl rfl rfl
    exact Kp.w q29 (by omega)
  · refine lt_pred (fun s53 e53 => ?_)
    have q53 : Kp ka kb m s53 := by rw [e53]; exact Kp.same hk rfl rfl rfl
    refine jn_pred (fun z58 => True) (fun z58 h58 => ?_) ?_
    · refine lt_pred (fun s66 e66 => ?_)
      have q66 : Kp ka kb m s66 := by rw [e66]; exact Kp.same q53 rfl rfl rfl
      exact Kp.w q66 (by omega)
    · refine ite_pred (fun c58 => ?_) (fun c58 => ?_)
      · exact app_i trivial
      · exact app_i trivial

def m_storeDog (σ : Sg) (x1 : Int32) : Sg :=
  lt ((
    if (x1 &&& 128) = 0 then
      255
    else
      127) : Int32) fun z12 =>
  lt (((σ 1 96) &&& z12) : Int32) fun v24 =>
  lt (((v24 &&& 191) ||| (x1 &&& 64)) : Int32) fun v35 =>
  lt ((
    if ((v35 &&& 16) = 0) ∨ (¬ ((x1 &&& 16) = 0)) then
      if (x1 &&& 24) = 24 then
        lt ((v35 ||| 16) : Int32) fun v82 =>
        lt (sst σ 0 23 4) fun s85 =>
        (v82, s85)
      else
        (v35, σ)
    else
      lt (((v35 &&& 192) ||| (x1 &&& 47)) : Int32) fun v60 =>
      lt (sst σ 0 23 0) fun s63 =>
      (v60, s63)) : Int32 × Sg) fun z40 =>
  lt (sst z40.2 1 96 z40.1) fun s95 =>
  lt (m_holdDog s95) fun s97 =>
  s97
set_option maxHeartbeats 4000000 in
theorem ok_m_storeDog (σ : Sg) (x1 : Int32) (ok : XOK σ) (hx1 : rg 0 255 x1) : XOK (m_storeDog σ x1) := by
  unfold m_storeDog
  refine jn_pred (fun z12 => rg 127 255 z12) (fun z12 h12 => ?_) ?_
  · refine lt_pred (fun v24 e24 => ?_)
    have f24 : rg 0 255 v24 := by rw [e24]; exact (rg_and_r (rg_w (lo2 := 0) h12 (by decide) (Int.le_refl _)))
    refine lt_pred (fun v35 e35 => ?_)
    have f35 : rg 0 255 v35 := by rw [e35]; exact (rg_or 8 (rg_and_r (rg_w (lo2 := 0) rl_191 (by decide) (Int.le_refl _))) (rg_and_r (rg_w (lo2 := 0) rl_64 (by decide) (Int.le_refl _))) (by decide) (by decide) (by decide))
    refine jn_pred (fun z40 => rg 0 255 z40.1 ∧ XOK z40.2) (fun z40 h40 => ?_) ?_
    · refine lt_pred (fun s95 e95 => ?_)
      have k95 : XOK s95 := by rw [e95]; exact xst_1 h40.2 h40.1
      refine lt_pred (fun s97 e97 => ?_)
      have k97 : XOK s97 := by rw [e97]; exact ok_m_holdDog s95 k95
      exact k97
    · refine ite_pred (fun c40 => ?_) (fun c40 => ?_)
      · refine ite_pred (fun c75 => ?_) (fun c75 => ?_)
        · refine lt_pred (fun v82 e82 => ?_)
          have f82 : rg 0 255 v82 := by rw [e82]; exact (rg_or 8 f35 (rg_w (lo2 := 0) rl_16 (by decide) (Int.le_refl _)) (by decide) (by decide) (by decide))
          refine lt_pred (fun s85 e85 => ?_)
          have k85 : XOK s85 := by rw [e85]; exact xst_f0_23 ok
          exact app_i ⟨f82, k85⟩
        · exact app_i ⟨f35, ok⟩
      · refine lt_pred (fun v60 e60 => ?_)
        have f60 : rg 0 255 v60 := by rw [e60]; exact (rg_or 8 (rg_and_r (rg_w (lo2 := 0) rl_192 (by decide) (Int.le_refl _))) (rg_and_r (rg_w (lo2 := 0) rl_47 (by decide) (Int.le_refl _))) (by decide) (by decide) (by decide))
        refine lt_pred (fun s63 e63 => ?_)
        have k63 : XOK s63 := by rw [e63]; exact xst_f0_23 ok
        exact app_i ⟨f60, k63⟩
  · refine ite_pred (fun c12 => ?_) (fun c12 => ?_)
    · exact app_i (rg_w rl_255 (by decide) (by decide))
    · exact app_i (rg_w rl_127 (by decide) (by decide))

set_option maxHeartbeats 4000000 in
theorem kp_m_storeDog (σ : Sg) (x1 : Int32) {ka kb : Int32} {m : Int} (hk : Kp ka kb m σ) (hm : m ≤ 1500280000) : Kp ka kb m (m_storeDog σ x1) := by
  have hm0 : 0 ≤ m := hk.nn
  show Kp ka kb m (m_storeDog σ x1)
  unfold m_storeDog
  refine jn_pred (fun z12 => True) (fun z12 h12 => ?_) ?_
  · refine lt_pred (fun v24 e24 => ?_)
    refine lt_pred (fun v35 e35 => ?_)
    refine jn_pred (fun z40 => Kp ka kb m z40.2) (fun z40 h40 => ?_) ?_
    · refine lt_pred (fun s95 e95 => ?_)
      have q95 : Kp ka kb m s95 := by rw [e95]; exact Kp.same h40 rfl rfl rfl
      refine lt_pred (fun s97 e97 => ?_)
      have q97 : Kp ka kb m s97 := by rw [e97]; exact Kp.w (kp_m_holdDog s95 q95 (by omega)) (by omega)
      exact Kp.w q97 (by omega)
    · refine ite_pred (fun c40 => ?_) (fun c40 => ?_)
      · refine ite_pred (fun c75 => ?_) (fun c75 => ?_)
        · refine lt_pred (fun v82 e82 => ?_)
          refine lt_pred (fun s85 e85 => ?_)
          have q85 : Kp ka kb m s85 := by rw [e85]; exact Kp.same hk rfl rfl rfl
          exact app_i (Kp.w q85 (by omega))
        · exact app_i (Kp.w hk (by omega))
      · refine lt_pred (fun v60 e60 => ?_)
        refine lt_pred (fun s63 e63 => ?_)
        have q63 : Kp ka kb m s63 := by rw [e63]; exact Kp.same hk rfl rfl rfl
        exact app_i (Kp.w q63 (by omega))
  · refine ite_pred (fun c12 => ?_) (fun c12 => ?_)
    · exact app_i trivial
    · exact app_i trivial

def m_store (σ : Sg) (x1 : Int32) (x2 : Int32) : Sg :=
  if (¬ (x1 < 0)) ∧ (x1 < 1280) then
    lt ((
      if (m_holds σ x1) = 0 then
        σ
      else
        lt (sst σ 1 (x1).toNatClampNeg x2) fun s25 =>
        s25) : Sg) fun z16 =>
    lt ((
      if x1 = 35 then
        lt (sst z16 1 37 ((z16 1 37) ^^^ x2)) fun s142 =>
        s142
      else
        if x1 = 53 then
          lt (sst z16 1 53 ((z16 1 53) &&& (x2 ^^^ (-1)))) fun s158 =>
          s158
        else
          if x1 = 63 then
            lt (m_storeRom z16 x2) fun s164 =>
            s164
          else
            if (x1 = 64) ∨ (x1 = 65) then
              if ((z16 1 63) &&& 2) = 0 then
                lt (sst z16 1 (x1).toNatClampNeg x2) fun s188 =>
                s188
              else
                z16
            else
              if x1 = 84 then
                lt (sst z16 1 84 ((z16 1 84) &&& (x2 ||| 244))) fun s206 =>
                s206
              else
                if x1 = 85 then
                  lt (m_storeVectors z16 x2) fun s212 =>
                  s212
                else
                  if x1 = 87 then
                    lt (m_storeFlash z16 x2) fun s220 =>
                    s220
                  else
                    if x1 = 96 then
                      lt (m_storeDog z16 x2) fun s228 =>
                      s228
                    else
                      if x1 = 192 then
                        lt ((
                          if (x2 &&& 64) = 0 then
                            253
                          else
                            189) : Int32) fun z253 =>
                        lt (sst z16 1 192 (((z16 1 192) &&& z253) ||| (x2 &&& 2))) fun s270 =>
                        s270
                      else
                        if x1 = 193 then
                          if (x2 &&& 8) = 0 then
                            lt (sst z16 0 11 (-1)) fun s283 =>
                            lt (sst s283 1 192 ((s283 1 192) ||| 32)) fun s298 =>
                            s298
                          else
                            z16
                        else
                          if x1 = 198 then
                            if (((z16 1 193) &&& 8) = 0) ∨ (((z16 1 192) &&& 32) = 0) then
                              z16
                            else
                              lt (sst z16 0 11 x2) fun s332 =>
                              lt (sst s332 1 192 ((s332 1 192) &&& 223)) fun s348 =>
                              s348
                          else
                            z16) : Sg) fun z27 =>
    z27
  else
    σ
set_option maxHeartbeats 4000000 in
theorem ok_m_store (σ : Sg) (x1 : Int32) (x2 : Int32) (ok : XOK σ) (hx1 : rg 0 65535 x1) (hx2 : rg 0 255 x2) : XOK (m_store σ x1 x2) := by
  unfold m_store
  refine ite_pred (fun c1 => ?_) (fun c1 => ?_)
  · refine jn_pred (fun z16 => XOK z16) (fun z16 h16 => ?_) ?_
    · refine jn_pred (fun z27 => XOK z27) (fun z27 h27 => ?_) ?_
      · exact h27
      · refine ite_pred (fun c27_35 => ?_) (fun c27_35 => ?_)
        · refine lt_pred (fun s142 e142 => ?_)
          have k142 : XOK s142 := by rw [e142]; exact xst_1 h16 (rg_xor 8 (xr_1 h16 _) hx2 (by decide) (by decide) (by decide))
          exact app_i k142
        · refine ite_pred (fun c27_53 => ?_) (fun c27_53 => ?_)
          · refine lt_pred (fun s158 e158 => ?_)
            have k158 : XOK s158 := by rw [e158]; exact xst_1 h16 (rg_and_l (xr_1 h16 _))
            exact app_i k158
          · refine ite_pred (fun c27_63 => ?_) (fun c27_63 => ?_)
            · refine lt_pred (fun s164 e164 => ?_)
              have k164 : XOK s164 := by rw [e164]; exact ok_m_storeRom z16 x2 h16 hx2
              exact app_i k164
            · refine ite_pred (fun c27_64 => ?_) (fun c27_64 => ?_)
              · refine ite_pred (fun c179 => ?_) (fun c179 => ?_)
                · refine lt_pred (fun s188 e188 => ?_)
                  have k188 : XOK s188 := by rw [e188]; exact xst_1 h16 hx2
                  exact app_i k188
                · exact app_i h16
              · have n27_64 : ¬ x1 = 64 := (fun q => c27_64 (Or.inl q))
                have n27_65 : ¬ x1 = 65 := (fun q => c27_64 (Or.inr q))
                refine ite_pred (fun c27_84 => ?_) (fun c27_84 => ?_)
                · refine lt_pred (fun s206 e206 => ?_)
                  have k206 : XOK s206 := by rw [e206]; exact xst_1 h16 (rg_and_r (rg_or 8 hx2 (rg_w (lo2 := 0) rl_244 (by decide) (Int.le_refl _)) (by decide) (by decide) (by decide)))
                  exact app_i k206
                · refine ite_pred (fun c27_85 => ?_) (fun c27_85 => ?_)
                  · refine lt_pred (fun s212 e212 => ?_)
                    have k212 : XOK s212 := by rw [e212]; exact ok_m_storeVectors z16 x2 h16 hx2
                    exact app_i k212
                  · refine ite_pred (fun c27_87 => ?_) (fun c27_87 => ?_)
                    · refine lt_pred (fun s220 e220 => ?_)
                      have k220 : XOK s220 := by rw [e220]; exact ok_m_storeFlash z16 x2 h16 hx2
                      exact app_i k220
                    · refine ite_pred (fun c27_96 => ?_) (fun c27_96 => ?_)
                      · refine lt_pred (fun s228 e228 => ?_)
                        have k228 : XOK s228 := by rw [e228]; exact ok_m_storeDog z16 x2 h16 hx2
                        exact app_i k228
                      · refine ite_pred (fun c27_192 => ?_) (fun c27_192 => ?_)
                        · refine jn_pred (fun z253 => rg 189 253 z253) (fun z253 h253 => ?_) ?_
                          · refine lt_pred (fun s270 e270 => ?_)
                            have k270 : XOK s270 := by rw [e270]; exact xst_1 h16 (rg_or 8 (rg_and_r (rg_w (lo2 := 0) h253 (by decide) (Int.le_refl _))) (rg_and_r (rg_w (lo2 := 0) rl_2 (by decide) (Int.le_refl _))) (by decide) (by decide) (by decide))
                            exact app_i k270
                          · refine ite_pred (fun c253 => ?_) (fun c253 => ?_)
                            · exact app_i (rg_w rl_253 (by decide) (by decide))
                            · exact app_i (rg_w rl_189 (by decide) (by decide))
                        · refine ite_pred (fun c27_193 => ?_) (fun c27_193 => ?_)
                          · refine ite_pred (fun c278 => ?_) (fun c278 => ?_)
                            · refine lt_pred (fun s283 e283 => ?_)
                              have k283 : XOK s283 := by rw [e283]; exact xst_0_11 h16 (rg_w rl_m1 (by decide) (by decide))
                              refine lt_pred (fun s298 e298 => ?_)
                              have k298 : XOK s298 := by rw [e298]; exact xst_1 k283 (rg_or 8 (xr_1 k283 _) (rg_w (lo2 := 0) rl_32 (by decide) (Int.le_refl _)) (by decide) (by decide) (by decide))
                              exact app_i k298
                            · exact app_i h16
                          · refine ite_pred (fun c27_198 => ?_) (fun c27_198 => ?_)
                            · refine ite_pred (fun c313 => ?_) (fun c313 => ?_)
                              · exact app_i h16
                              · refine lt_pred (fun s332 e332 => ?_)
                                have k332 : XOK s332 := by rw [e332]; exact xst_0_11 h16 (rg_w hx2 (by decide) (by decide))
                                refine lt_pred (fun s348 e348 => ?_)
                                have k348 : XOK s348 := by rw [e348]; exact xst_1 k332 (rg_w (rg_and_r (rg_w (lo2 := 0) rl_223 (by decide) (Int.le_refl _))) (by decide) (by decide))
                                exact app_i k348
                            · exact app_i h16
    · refine ite_pred (fun c16 => ?_) (fun c16 => ?_)
      · exact app_i ok
      · refine lt_pred (fun s25 e25 => ?_)
        have k25 : XOK s25 := by rw [e25]; exact xst_1 ok hx2
        exact app_i k25
  · exact ok

set_option maxHeartbeats 4000000 in
theorem kp_m_store (σ : Sg) (x1 : Int32) (x2 : Int32) {ka kb : Int32} {m : Int} (hk : Kp ka kb m σ) (hm : m ≤ 1500270000) : Kp ka kb (m + 4) (m_store σ x1 x2) := by
  have hm0 : 0 ≤ m := hk.nn
  show Kp ka kb (m + 4) (m_store σ x1 x2)
  unfold m_store
  refine ite_pred (fun c1 => ?_) (fun c1 => ?_)
  · refine jn_pred (fun z16 => Kp ka kb m z16) (fun z16 h16 => ?_) ?_
    · refine jn_pred (fun z27 => Kp ka kb (m + 4) z27) (fun z27 h27 => ?_) ?_
      · exact Kp.w h27 (by omega)
      · refine ite_pred (fun c27_35 => ?_) (fun c27_35 => ?_)
        · refine lt_pred (fun s142 e142 => ?_)
          have q142 : Kp ka kb m s142 := by rw [e142]; exact Kp.same h16 rfl rfl rfl
          exact app_i (Kp.w q142 (by omega))
        · refine ite_pred (fun c27_53 => ?_) (fun c27_53 => ?_)
          · refine lt_pred (fun s158 e158 => ?_)
            have q158 : Kp ka kb m s158 := by rw [e158]; exact Kp.same h16 rfl rfl rfl
            exact app_i (Kp.w q158 (by omega))
          · refine ite_pred (fun c27_63 => ?_) (fun c27_63 => ?_)
            · refine lt_pred (fun s164 e164 => ?_)
              have q164 : Kp ka kb (m + 4) s164 := by rw [e164]; exact Kp.w (kp_m_storeRom z16 x2 h16 (by omega)) (by omega)
              exact app_i (Kp.w q164 (by omega))
            · refine ite_pred (fun c27_64 => ?_) (fun c27_64 => ?_)
              · refine ite_pred (fun c179 => ?_) (fun c179 => ?_)
                · refine lt_pred (fun s188 e188 => ?_)
                  have q188 : Kp ka kb m s188 := by rw [e188]; exact Kp.same h16 rfl rfl rfl
                  exact app_i (Kp.w q188 (by omega))
                · exact app_i (Kp.w h16 (by omega))
              · refine ite_pred (fun c27_84 => ?_) (fun c27_84 => ?_)
                · refine lt_pred (fun s206 e206 => ?_)
                  have q206 : Kp ka kb m s206 := by rw [e206]; exact Kp.same h16 rfl rfl rfl
                  exact app_i (Kp.w q206 (by omega))
                · refine ite_pred (fun c27_85 => ?_) (fun c27_85 => ?_)
                  · refine lt_pred (fun s212 e212 => ?_)
                    have q212 : Kp ka kb m s212 := by rw [e212]; exact Kp.w (kp_m_storeVectors z16 x2 h16 (by omega)) (by omega)
                    exact app_i (Kp.w q212 (by omega))
                  · refine ite_pred (fun c27_87 => ?_) (fun c27_87 => ?_)
                    · refine lt_pred (fun s220 e220 => ?_)
                      have q220 : Kp ka kb m s220 := by rw [e220]; exact Kp.w (kp_m_storeFlash z16 x2 h16 (by omega)) (by omega)
                      exact app_i (Kp.w q220 (by omega))
                    · refine ite_pred (fun c27_96 => ?_) (fun c27_96 => ?_)
                      · refine lt_pred (fun s228 e228 => ?_)
                        have q228 : Kp ka kb m s228 := by rw [e228]; exact Kp.w (kp_m_storeDog z16 x2 h16 (by omega)) (by omega)
                        exact app_i (Kp.w q228 (by omega))
                      · refine ite_pred (fun c27_192 => ?_) (fun c27_192 => ?_)
                        · refine jn_pred (fun z253 => True) (fun z253 h253 => ?_) ?_
                          · refine lt_pred (fun s270 e270 => ?_)
                            have q270 : Kp ka kb m s270 := by rw [e270]; exact Kp.same h16 rfl rfl rfl
                            exact app_i (Kp.w q270 (by omega))
                          · refine ite_pred (fun c253 => ?_) (fun c253 => ?_)
                            · exact app_i trivial
                            · exact app_i trivial
                        · refine ite_pred (fun c27_193 => ?_) (fun c27_193 => ?_)
                          · refine ite_pred (fun c278 => ?_) (fun c278 => ?_)
                            · refine lt_pred (fun s283 e283 => ?_)
                              have q283 : Kp ka kb m s283 := by rw [e283]; exact Kp.same h16 rfl rfl rfl
                              refine lt_pred (fun s298 e298 => ?_)
                              have q298 : Kp ka kb m s298 := by rw [e298]; exact Kp.same q283 rfl rfl rfl
                              exact app_i (Kp.w q298 (by omega))
                            · exact app_i (Kp.w h16 (by omega))
                          · refine ite_pred (fun c27_198 => ?_) (fun c27_198 => ?_)
                            · refine ite_pred (fun c313 => ?_) (fun c313 => ?_)
                              · exact app_i (Kp.w h16 (by omega))
                              · refine lt_pred (fun s332 e332 => ?_)
                                have q332 : Kp ka kb m s332 := by rw [e332]; exact Kp.same h16 rfl rfl rfl
                                refine lt_pred (fun s348 e348 => ?_)
                                have q348 : Kp ka kb m s348 := by rw [e348]; exact Kp.same q332 rfl rfl rfl
                                exact app_i (Kp.w q348 (by omega))
                            · exact app_i (Kp.w h16 (by omega))
    · refine ite_pred (fun c16 => ?_) (fun c16 => ?_)
      · exact app_i (Kp.w hk (by omega))
      · refine lt_pred (fun s25 e25 => ?_)
        have q25 : Kp ka kb m s25 := by rw [e25]; exact Kp.same hk rfl rfl rfl
        exact app_i (Kp.w q25 (by omega))
  · exact Kp.w hk (by omega)

def m_interrupt (σ : Sg) : Int32 :=
  lt ((σ 1 96) : Int32) fun v7 =>
  lt (((σ 1 53) &&& (σ 1 110)) : Int32) fun v23 =>
  lt (((σ 1 192) &&& (σ 1 193)) : Int32) fun v41 =>
  if (v7 &&& 192) = 192 then
    1
  else
    if (v23 &&& 2) = 0 then
      if (v23 &&& 1) = 0 then
        if (v41 &&& 128) = 0 then
          if (v41 &&& 32) = 0 then
            if (v41 &&& 64) = 0 then
              if ((σ 1 63) &&& 10) = 8 then
                7
              else
                lt ((
                  if ((σ 1 87) &&& 129) = 128 then
                    8
                  else
                    0) : Int32) fun z132 =>
                z132
            else
              6
          else
            5
        else
          4
      else
        3
    else
      2
set_option maxHeartbeats 4000000 in
theorem ok_m_interrupt (σ : Sg) (ok : XOK σ) : rg 0 8 (m_interrupt σ) := by
  unfold m_interrupt
  refine lt_pred (fun v7 e7 => ?_)
  have f7 : rg 0 255 v7 := by rw [e7]; exact (xr_1 ok _)
  refine lt_pred (fun v23 e23 => ?_)
  have f23 : rg 0 255 v23 := by rw [e23]; exact (rg_and_r (xr_1 ok _))
  refine lt_pred (fun v41 e41 => ?_)
  have f41 : rg 0 255 v41 := by rw [e41]; exact (rg_and_r (xr_1 ok _))
  refine ite_pred (fun c50 => ?_) (fun c50 => ?_)
  · exact (rg_w rl_1 (by decide) (by decide))
  · refine ite_pred (fun c58 => ?_) (fun c58 => ?_)
    · refine ite_pred (fun c66 => ?_) (fun c66 => ?_)
      · refine ite_pred (fun c76 => ?_) (fun c76 => ?_)
        · refine ite_pred (fun c85 => ?_) (fun c85 => ?_)
          · refine ite_pred (fun c94 => ?_) (fun c94 => ?_)
            · refine ite_pred (fun c112 => ?_) (fun c112 => ?_)
              · exact (rg_w rl_7 (by decide) (by decide))
              · refine jn_pred (fun z132 => rg 0 8 z132) (fun z132 h132 => ?_) ?_
                · exact h132
                · refine ite_pred (fun c132 => ?_) (fun c132 => ?_)
                  · exact app_i (rg_w rl_8 (by decide) (by decide))
                  · exact app_i (rg_w rl_0 (by decide) (by decide))
            · exact (rg_w rl_6 (by decide) (by decide))
          · exact (rg_w rl_5 (by decide) (by decide))
        · exact (rg_w rl_4 (by decide) (by decide))
      · exact (rg_w rl_3 (by decide) (by decide))
    · exact (rg_w rl_2 (by decide) (by decide))

def m_flag (σ : Sg) (x1 : Int32) : Int32 :=
  lt ((
    if (((σ 1 95) >>> (x1 &&& 31)) &&& 1) = 1 then
      1
    else
      0) : Int32) fun z12 =>
  z12
set_option maxHeartbeats 4000000 in
theorem ok_m_flag (σ : Sg) (x1 : Int32) (ok : XOK σ) : rg 0 1 (m_flag σ x1) := by
  unfold m_flag
  refine jn_pred (fun z12 => rg 0 1 z12) (fun z12 h12 => ?_) ?_
  · exact h12
  · refine ite_pred (fun c12 => ?_) (fun c12 => ?_)
    · exact app_i (rg_w rl_1 (by decide) (by decide))
    · exact app_i (rg_w rl_0 (by decide) (by decide))

def m_awaited (σ : Sg) : Int32 :=
  lt ((
    if (m_flag σ 7) = 0 then
      0
    else
      (m_interrupt σ)) : Int32) fun z6 =>
  z6
set_option maxHeartbeats 4000000 in
theorem ok_m_awaited (σ : Sg) (ok : XOK σ) : rg 0 8 (m_awaited σ) := by
  unfold m_awaited
  refine jn_pred (fun z6 => rg 0 8 z6) (fun z6 h6 => ?_) ?_
  · exact h6
  · refine ite_pred (fun c6 => ?_) (fun c6 => ?_)
    · exact app_i (rg_w rl_0 (by decide) (by decide))
    · exact app_i (ok_m_interrupt σ ok)

def m_setFlag (σ : Sg) (x1 : Int32) (x2 : Int32) : Sg :=
  lt ((
    if x2 = 0 then
      ((σ 1 95) &&& (((1 : Int32) <<< (x1 &&& 31)) ^^^ (-1)))
    else
      ((σ 1 95) ||| ((1 : Int32) <<< (x1 &&& 31)))) : Int32) fun z7 =>
  lt (sst σ 1 95 z7) fun s37 =>
  s37
set_option maxHeartbeats 4000000 in
theorem ok_m_setFlag (σ : Sg) (x1 : Int32) (x2 : Int32) (ok : XOK σ) (hx1 : rg 0 7 x1) (hx2 : rg 0 1 x2) : XOK (m_setFlag σ x1 x2) := by
  unfold m_setFlag
  refine jn_pred (fun z7 => rg 0 255 z7) (fun z7 h7 => ?_) ?_
  · refine lt_pred (fun s37 e37 => ?_)
    have k37 : XOK s37 := by rw [e37]; exact xst_1 ok h7
    exact k37
  · refine ite_pred (fun c7 => ?_) (fun c7 => ?_)
    · exact app_i (rg_and_l (xr_1 ok _))
    · exact app_i (rg_or 8 (xr_1 ok _) (rg_bit hx1 (by decide)) (by decide) (by decide) (by decide))

set_option maxHeartbeats 4000000 in
theorem kp_m_setFlag (σ : Sg) (x1 : Int32) (x2 : Int32) {ka kb : Int32} {m : Int} (hk : Kp ka kb m σ) (hm : m ≤ 1500290000) : Kp ka kb m (m_setFlag σ x1 x2) := by
  have hm0 : 0 ≤ m := hk.nn
  show Kp ka kb m (m_setFlag σ x1 x2)
  unfold m_setFlag
  refine jn_pred (fun z7 => True) (fun z7 h7 => ?_) ?_
  · refine lt_pred (fun s37 e37 => ?_)
    have q37 : Kp ka kb m s37 := by rw [e37]; exact Kp.same hk rfl rfl rfl
    exact Kp.w q37 (by omega)
  · refine ite_pred (fun c7 => ?_) (fun c7 => ?_)
    · exact app_i trivial
    · exact app_i trivial

def m_pointer (σ : Sg) (x1 : Int32) : Int32 :=
  ((σ 1 (x1).toNatClampNeg) ||| ((σ 1 ((x1 + 1)).toNatClampNeg) <<< (8 : Int32)))
set_option maxHeartbeats 4000000 in
theorem ok_m_pointer (σ : Sg) (x1 : Int32) (ok : XOK σ) (hx1 : rg 0 1278 x1) : rg 0 65535 (m_pointer σ x1) := by
  unfold m_pointer
  exact (rg_or 16 (xr_1 ok _) (rg_shl 8 (by decide +kernel) (xr_1 ok _) (by decide)) (by decide) (by decide) (by decide))

def m_setPointer (σ : Sg) (x1 : Int32) (x2 : Int32) : Sg :=
  lt (sst σ 1 (x1).toNatClampNeg (x2 &&& 255)) fun s10 =>
  lt (sst s10 1 ((x1 + 1)).toNatClampNeg ((x2 >>> (8 : Int32)) &&& 255)) fun s26 =>
  s26
set_option maxHeartbeats 4000000 in
theorem ok_m_setPointer (σ : Sg) (x1 : Int32) (x2 : Int32) (ok : XOK σ) (hx1 : rg 0 1278 x1) : XOK (m_setPointer σ x1 x2) := by
  unfold m_setPointer
  refine lt_pred (fun s10 e10 => ?_)
  have k10 : XOK s10 := by rw [e10]; exact xst_1 ok (rg_and_r (rg_w (lo2 := 0) rl_255 (by decide) (Int.le_refl _)))
  refine lt_pred (fun s26 e26 => ?_)
  have k26 : XOK s26 := by rw [e26]; exact xst_1 k10 (rg_and_r (rg_w (lo2 := 0) rl_255 (by decide) (Int.le_refl _)))
  exact k26

set_option maxHeartbeats 4000000 in
theorem kp_m_setPointer (σ : Sg) (x1 : Int32) (x2 : Int32) {ka kb : Int32} {m : Int} (hk : Kp ka kb m σ) (hm : m ≤ 1500290000) : Kp ka kb m (m_setPointer σ x1 x2) := by
  have hm0 : 0 ≤ m := hk.nn
  show Kp ka kb m (m_setPointer σ x1 x2)
  unfold m_setPointer
  refine lt_pred (fun s10 e10 => ?_)
  have q10 : Kp ka kb m s10 := by rw [e10]; exact Kp.same hk rfl rfl rfl
  refine lt_pred (fun s26 e26 => ?_)
  have q26 : Kp ka kb m s26 := by rw [e26]; exact Kp.same q10 rfl rfl rfl
  exact Kp.w q26 (by omega)

def m_push (σ : Sg) (x1 : Int32) : Sg :=
  lt ((m_pointer σ 93) : Int32) fun v6 =>
  lt (m_store σ v6 x1) fun s10 =>
  lt (m_setPointer s10 93 (v6 - 1)) fun s19 =>
  s19
set_option maxHeartbeats 4000000 in
theorem ok_m_push (σ : Sg) (x1 : Int32) (ok : XOK σ) (hx1 : rg 0 255 x1) : XOK (m_push σ x1) := by
  unfold m_push
  refine lt_pred (fun v6 e6 => ?_)
  have f6 : rg 0 65535 v6 := by rw [e6]; exact (ok_m_pointer σ 93 ok (rg_w rl_93 (by decide) (by decide)))
  refine lt_pred (fun s10 e10 => ?_)
  have k10 : XOK s10 := by rw [e10]; exact ok_m_store σ v6 x1 ok f6 hx1
  refine lt_pred (fun s19 e19 => ?_)
  have k19 : XOK s19 := by rw [e19]; exact ok_m_setPointer s10 93 (v6 - 1) k10 (rg_w rl_93 (by decide) (by decide))
  exact k19

set_option maxHeartbeats 4000000 in
theorem kp_m_push (σ : Sg) (x1 : Int32) {ka kb : Int32} {m : Int} (hk : Kp ka kb m σ) (hm : m ≤ 1500260000) : Kp ka kb (m + 4) (m_push σ x1) := by
  have hm0 : 0 ≤ m := hk.nn
  show Kp ka kb (m + 4) (m_push σ x1)
  unfold m_push
  refine lt_pred (fun v6 e6 => ?_)
  refine lt_pred (fun s10 e10 => ?_)
  have q10 : Kp ka kb (m + 4) s10 := by rw [e10]; exact Kp.w (kp_m_store σ v6 x1 hk (by omega)) (by omega)
  refine lt_pred (fun s19 e19 => ?_)
  have q19 : Kp ka kb (m + 4) s19 := by rw [e19]; exact Kp.w (kp_m_setPointer s10 93 (v6 - 1) q10 (by omega)) (by omega)
  exact Kp.w q19 (by omega)

def m_pushPlace (σ : Sg) (x1 : Int32) : Sg :=
  lt (m_push σ (x1 &&& 255)) fun s6 =>
  lt (m_push s6 (x1 >>> (8 : Int32))) fun s14 =>
  s14
set_option maxHeartbeats 4000000 in
theorem ok_m_pushPlace (σ : Sg) (x1 : Int32) (ok : XOK σ) (hx1 : rg 0 2047 x1) : XOK (m_pushPlace σ x1) := by
  unfold m_pushPlace
  refine lt_pred (fun s6 e6 => ?_)
  have k6 : XOK s6 := by rw [e6]; exact ok_m_push σ (x1 &&& 255) ok (rg_and_r (rg_w (lo2 := 0) rl_255 (by decide) (Int.le_refl _)))
  refine lt_pred (fun s14 e14 => ?_)
  have k14 : XOK s14 := by rw [e14]; exact ok_m_push s6 (x1 >>> (8 : Int32)) k6 (rg_w (rg_shr 8 (by decide +kernel) hx1) (by decide) (by decide))
  exact k14

set_option maxHeartbeats 4000000 in
theorem kp_m_pushPlace (σ : Sg) (x1 : Int32) {ka kb : Int32} {m : Int} (hk : Kp ka kb m σ) (hm : m ≤ 1500250000) : Kp ka kb (m + 8) (m_pushPlace σ x1) := by
  have hm0 : 0 ≤ m := hk.nn
  show Kp ka kb (m + 8) (m_pushPlace σ x1)
  unfold m_pushPlace
  refine lt_pred (fun s6 e6 => ?_)
  have q6 : Kp ka kb (m + 4) s6 := by rw [e6]; exact Kp.w (kp_m_push σ (x1 &&& 255) hk (by omega)) (by omega)
  refine lt_pred (fun s14 e14 => ?_)
  have q14 : Kp ka kb (m + 8) s14 := by rw [e14]; exact Kp.w (kp_m_push s6 (x1 >>> (8 : Int32)) q6 (by omega)) (by omega)
  exact Kp.w q14 (by omega)

def m_enter (σ : Sg) (x1 : Int32) : Sg :=
  lt (sst σ 0 6 0) fun s2 =>
  lt (m_pushPlace s2 (s2 0 0)) fun s10 =>
  lt ((
    if x1 = 1 then
      lt ((
        if ((s10 1 96) &&& 8) = 0 then
          127
        else
          63) : Int32) fun z36 =>
      lt (sst s10 1 96 ((s10 1 96) &&& z36)) fun s47 =>
      s47
    else
      s10) : Sg) fun z15 =>
  lt ((
    if x1 = 2 then
      lt (sst z15 1 53 ((z15 1 53) &&& 253)) fun s65 =>
      s65
    else
      z15) : Sg) fun z50 =>
  lt ((
    if x1 = 3 then
      lt (sst z50 1 53 ((z50 1 53) &&& 254)) fun s83 =>
      s83
    else
      z50) : Sg) fun z68 =>
  lt ((
    if x1 = 6 then
      lt (sst z68 1 192 ((z68 1 192) &&& 191)) fun s103 =>
      s103
    else
      z68) : Sg) fun z87 =>
  lt (m_setFlag z87 7 0) fun s108 =>
  lt ((
    if ((s108 1 85) &&& 2) = 0 then
      0
    else
      1536) : Int32) fun z124 =>
  lt (sst s108 0 0 ((2 * x1) + z124)) fun s135 =>
  lt (sst s135 0 4 ((s135 0 4) + 1)) fun s145 =>
  s145
set_option maxHeartbeats 4000000 in
theorem ok_m_enter (σ : Sg) (x1 : Int32) (ok : XOK σ) (hx1 : rg 1 8 x1) : XOK (m_enter σ x1) := by
  unfold m_enter
  refine lt_pred (fun s2 e2 => ?_)
  have k2 : XOK s2 := by rw [e2]; exact xst_0_6 ok (rg_w rl_0 (by decide) (by decide))
  refine lt_pred (fun s10 e10 => ?_)
  have k10 : XOK s10 := by rw [e10]; exact ok_m_pushPlace s2 (s2 0 0) k2 (xr0_0 k2)
  refine jn_pred (fun z15 => XOK z15) (fun z15 h15 => ?_) ?_
  · refine jn_pred (fun z50 => XOK z50) (fun z50 h50 => ?_) ?_
    · refine jn_pred (fun z68 => XOK z68) (fun z68 h68 => ?_) ?_
      · refine jn_pred (fun z87 => XOK z87) (fun z87 h87 => ?_) ?_
        · refine lt_pred (fun s108 e108 => ?_)
          have k108 : XOK s108 := by rw [e108]; exact ok_m_setFlag z87 7 0 h87 (rg_w rl_7 (by decide) (by decide)) (rg_w rl_0 (by decide) (by decide))
          refine jn_pred (fun z124 => rg 0 1536 z124) (fun z124 h124 => ?_) ?_
          · refine lt_pred (fun s135 e135 => ?_)
            have k135 : XOK s135 := by rw [e135]; exact xst_0_0 k108 (rg_w (rg_add (rg_mul (rg_w (lo2 := 0) rl_2 (by decide) (Int.le_refl _)) (rg_w (lo2 := 0) hx1 (by decide) (Int.le_refl _)) (by decide)) h124 (by decide) (by decide)) (by decide) (by decide))
            refine lt_pred (fun s145 e145 => ?_)
            have k145 : XOK s145 := by rw [e145]; exact xst_f0_4 k135
            exact k145
          · refine ite_pred (fun c124 => ?_) (fun c124 => ?_)
            · exact app_i (rg_w rl_0 (by decide) (by decide))
            · exact app_i (rg_w rl_1536 (by decide) (by decide))
        · refine ite_pred (fun c87 => ?_) (fun c87 => ?_)
          · refine lt_pred (fun s103 e103 => ?_)
            have k103 : XOK s103 := by rw [e103]; exact xst_1 h68 (rg_w (rg_and_r (rg_w (lo2 := 0) rl_191 (by decide) (Int.le_refl _))) (by decide) (by decide))
            exact app_i k103
          · exact app_i h68
      · refine ite_pred (fun c68 => ?_) (fun c68 => ?_)
        · refine lt_pred (fun s83 e83 => ?_)
          have k83 : XOK s83 := by rw [e83]; exact xst_1 h50 (rg_w (rg_and_r (rg_w (lo2 := 0) rl_254 (by decide) (Int.le_refl _))) (by decide) (by decide))
          exact app_i k83
        · exact app_i h50
    · refine ite_pred (fun c50 => ?_) (fun c50 => ?_)
      · refine lt_pred (fun s65 e65 => ?_)
        have k65 : XOK s65 := by rw [e65]; exact xst_1 h15 (rg_w (rg_and_r (rg_w (lo2 := 0) rl_253 (by decide) (Int.le_refl _))) (by decide) (by decide))
        exact app_i k65
      · exact app_i h15
  · refine ite_pred (fun c15 => ?_) (fun c15 => ?_)
    · refine jn_pred (fun z36 => rg 63 127 z36) (fun z36 h36 => ?_) ?_
      · refine lt_pred (fun s47 e47 => ?_)
        have k47 : XOK s47 := by rw [e47]; exact xst_1 k10 (rg_w (rg_and_r (rg_w (lo2 := 0) h36 (by decide) (Int.le_refl _))) (by decide) (by decide))
        exact app_i k47
      · refine ite_pred (fun c36 => ?_) (fun c36 => ?_)
        · exact app_i (rg_w rl_127 (by decide) (by decide))
        · exact app_i (rg_w rl_63 (by decide) (by decide))
    · exact app_i k10

set_option maxHeartbeats 4000000 in
theorem kp_m_enter (σ : Sg) (x1 : Int32) {ka kb : Int32} {m : Int} (hk : Kp ka kb m σ) (hm : m ≤ 1500240000) : Kp ka kb (m + 8) (m_enter σ x1) := by
  have hm0 : 0 ≤ m := hk.nn
  show Kp ka kb (m + 8) (m_enter σ x1)
  unfold m_enter
  refine lt_pred (fun s2 e2 => ?_)
  have q2 : Kp ka kb m s2 := by rw [e2]; exact Kp.same hk rfl rfl rfl
  refine lt_pred (fun s10 e10 => ?_)
  have q10 : Kp ka kb (m + 8) s10 := by rw [e10]; exact Kp.w (kp_m_pushPlace s2 (s2 0 0) q2 (by omega)) (by omega)
  refine jn_pred (fun z15 => Kp ka kb (m + 8) z15) (fun z15 h15 => ?_) ?_
  · refine jn_pred (fun z50 => Kp ka kb (m + 8) z50) (fun z50 h50 => ?_) ?_
    · refine jn_pred (fun z68 => Kp ka kb (m + 8) z68) (fun z68 h68 => ?_) ?_
      · refine jn_pred (fun z87 => Kp ka kb (m + 8) z87) (fun z87 h87 => ?_) ?_
        · refine lt_pred (fun s108 e108 => ?_)
          have q108 : Kp ka kb (m + 8) s108 := by rw [e108]; exact Kp.w (kp_m_setFlag z87 7 0 h87 (by omega)) (by omega)
          refine jn_pred (fun z124 => True) (fun z124 h124 => ?_) ?_
          · refine lt_pred (fun s135 e135 => ?_)
            have q135 : Kp ka kb (m + 8) s135 := by rw [e135]; exact Kp.same q108 rfl rfl rfl
            refine lt_pred (fun s145 e145 => ?_)
            have q145 : Kp ka kb (m + 8) s145 := by rw [e145]; exact Kp.same q135 rfl rfl rfl
            exact Kp.w q145 (by omega)
          · refine ite_pred (fun c124 => ?_) (fun c124 => ?_)
            · exact app_i trivial
            · exact app_i trivial
        · refine ite_pred (fun c87 => ?_) (fun c87 => ?_)
          · refine lt_pred (fun s103 e103 => ?_)
            have q103 : Kp ka kb (m + 8) s103 := by rw [e103]; exact Kp.same h68 rfl rfl rfl
            exact app_i (Kp.w q103 (by omega))
          · exact app_i (Kp.w h68 (by omega))
      · refine ite_pred (fun c68 => ?_) (fun c68 => ?_)
        · refine lt_pred (fun s83 e83 => ?_)
          have q83 : Kp ka kb (m + 8) s83 := by rw [e83]; exact Kp.same h50 rfl rfl rfl
          exact app_i (Kp.w q83 (by omega))
        · exact app_i (Kp.w h50 (by omega))
    · refine ite_pred (fun c50 => ?_) (fun c50 => ?_)
      · refine lt_pred (fun s65 e65 => ?_)
        have q65 : Kp ka kb (m + 8) s65 := by rw [e65]; exact Kp.same h15 rfl rfl rfl
        exact app_i (Kp.w q65 (by omega))
      · exact app_i (Kp.w h15 (by omega))
  · refine ite_pred (fun c15 => ?_) (fun c15 => ?_)
    · refine jn_pred (fun z36 => True) (fun z36 h36 => ?_) ?_
      · refine lt_pred (fun s47 e47 => ?_)
        have q47 : Kp ka kb (m + 8) s47 := by rw [e47]; exact Kp.same q10 rfl rfl rfl
        exact app_i (Kp.w q47 (by omega))
      · refine ite_pred (fun c36 => ?_) (fun c36 => ?_)
        · exact app_i trivial
        · exact app_i trivial
    · exact app_i (Kp.w q10 (by omega))

def m_frame (σ : Sg) : Int32 :=
  lt ((
    if ((σ 1 192) &&& 2) = 0 then
      160
    else
      80) : Int32) fun z35 =>
  ((((((σ 1 197) &&& 15) <<< (8 : Int32)) ||| (σ 1 196)) + 1) * z35)
set_option maxHeartbeats 4000000 in
theorem ok_m_frame (σ : Sg) (ok : XOK σ) : rg 0 655360 (m_frame σ) := by
  unfold m_frame
  refine jn_pred (fun z35 => rg 80 160 z35) (fun z35 h35 => ?_) ?_
  · exact (rg_mul (rg_w (lo2 := 0) (rg_add (rg_or 12 (rg_shl 8 (by decide +kernel) (rg_and_r (rg_w (lo2 := 0) rl_15 (by decide) (Int.le_refl _))) (by decide)) (xr_1 ok _) (by decide) (by decide) (by decide)) rl_1 (by decide) (by decide)) (by decide) (Int.le_refl _)) (rg_w (lo2 := 0) h35 (by decide) (Int.le_refl _)) (by decide))
  · refine ite_pred (fun c35 => ?_) (fun c35 => ?_)
    · exact app_i (rg_w rl_160 (by decide) (by decide))
    · exact app_i (rg_w rl_80 (by decide) (by decide))

def m_line (σ : Sg) : Sg :=
  lt ((
    if (¬ ((σ 0 13) = 0)) ∨ ((σ 0 11) = (-1)) then
      if 0 < (σ 0 13) then
        lt (sst σ 0 13 ((σ 0 13) - 1)) fun s66 =>
        if (s66 0 13) = 0 then
          lt ((
            if (s66 0 20) < 1000 then
              lt (sst s66 4 ((s66 0 20)).toNatClampNeg (s66 0 12)) fun s98 =>
              s98
            else
              s66) : Sg) fun z83 =>
          lt (sst z83 0 20 ((z83 0 20) + 1)) fun s106 =>
          if (s106 0 11) = (-1) then
            lt (sst s106 1 192 ((s106 1 192) ||| 64)) fun s129 =>
            s129
          else
            s106
        else
          s66
      else
        σ
    else
      lt (sst σ 0 12 (σ 0 11)) fun s20 =>
      lt (sst s20 0 11 (-1)) fun s25 =>
      lt (sst s25 0 13 (m_frame s25)) fun s33 =>
      lt (sst s33 1 192 ((s33 1 192) ||| 32)) fun s48 =>
      s48) : Sg) fun z4 =>
  if (z4 0 15) = 0 then
    lt ((
      if 0 < (z4 0 19) then
        lt (sst z4 0 14 (z4 6 0)) fun s151 =>
        lt (sst s151 0 19 ((s151 0 19) - 1)) fun s161 =>
        lt ((iterN ((s161 0 19)).toNatClampNeg 0 (fun i166_1 a166_1 =>
          lt (sst a166_1 6 ((nI i166_1)).toNatClampNeg (a166_1 6 (((nI i166_1) + 1)).toNatClampNeg)) fun s187 =>
          s187) s161) : Sg) fun z166 =>
        lt (sst z166 0 15 (m_frame z166)) fun s199 =>
        s199
      else
        z4) : Sg) fun z141 =>
    z141
  else
    lt (sst z4 0 15 ((z4 0 15) - 1)) fun s210 =>
    if (0 < (s210 0 15)) ∨ (((s210 1 193) &&& 16) = 0) then
      s210
    else
      if (s210 0 18) = 2 then
        lt (sst s210 1 192 ((s210 1 192) ||| 8)) fun s255 =>
        s255
      else
        lt ((
          if (s210 0 18) = 0 then
            lt (sst s210 0 16 (s210 0 14)) fun s269 =>
            s269
          else
            lt (sst s210 0 17 (s210 0 14)) fun s280 =>
            s280) : Sg) fun z261 =>
        lt (sst z261 0 18 ((z261 0 18) + 1)) fun s290 =>
        lt (m_showReceived s290) fun s294 =>
        s294
set_option maxHeartbeats 4000000 in
theorem ok_m_line (σ : Sg) (ok : XOK σ) (hs20 : rg 0 2147483646 (σ 0 20)) : XOK (m_line σ) := by
  unfold m_line
  refine jn_pred (fun z4 => XOK z4) (fun z4 h4 => ?_) ?_
  · refine ite_pred (fun c134 => ?_) (fun c134 => ?_)
    · refine jn_pred (fun z141 => XOK z141) (fun z141 h141 => ?_) ?_
      · exact h141
      · refine ite_pred (fun c141 => ?_) (fun c141 => ?_)
        · refine lt_pred (fun s151 e151 => ?_)
          have k151 : XOK s151 := by rw [e151]; exact xst_0_14 h4 (xr_6 h4 _)
          have y15_151 : rg 0 0 (s151 0 15) := by rw [e151]; exact (show rg 0 0 (z4 0 15) from (rg_eq c134 rl_0))
          have y19_151 : rg 1 300 (s151 0 19) := by rw [e151]; exact (show rg 1 300 (z4 0 19) from (rg_lt_lo (xr0_19 h4) c141 rl_0))
          refine lt_pred (fun s161 e161 => ?_)
          have k161 : XOK s161 := by rw [e161]; exact xst_0_19 k151 (rg_w (rg_sub y19_151 rl_1 (by decide) (by decide)) (by decide) (by decide))
          have y15_161 : rg 0 0 (s161 0 15) := by rw [e161]; exact (show rg 0 0 (s151 0 15) from y15_151)
          have y19_161 : rg 0 299 (s161 0 19) := by rw [e161]; exact (show rg 0 299 ((s151 0 19) - 1) from (rg_sub y19_151 rl_1 (by decide) (by decide)))
          have hNb : ((s161 0 19)).toInt = (((s161 0 19)).toNatClampNeg : Int) := (rg_nI y19_161).2.symm
          have hNm : ((s161 0 19)).toNatClampNeg ≤ 299 := by have hb := (y19_161).2; omega
          refine for_pred (N := ((s161 0 19)).toNatClampNeg) (fun i a => XOK a ∧ a 0 19 = s161 0 19) (fun i166_1 a166_1 hi166 ha166 => ?_) (fun z166 hz166 => ?_) ((s161 0 19)).toNatClampNeg 0 s161 (by omega) ⟨k161, rfl⟩
          · have fi166 : rg 0 298 (nI i166_1) := rg_of_nI (by omega) (by omega)
            refine lt_pred (fun s187 e187 => ?_)
            have k187 : XOK s187 := by rw [e187]; exact xst_6 ha166.1 (xr_6 ha166.1 _)
            exact app_i ⟨k187, (by rw [e187]; exact ha166.2)⟩
          · refine lt_pred (fun s199 e199 => ?_)
            have k199 : XOK s199 := by rw [e199]; exact xst_f0_15 hz166.1
            exact app_i k199
        · exact app_i h4
    · refine lt_pred (fun s210 e210 => ?_)
      have k210 : XOK s210 := by rw [e210]; exact xst_f0_15 h4
      refine ite_pred (fun c217 => ?_) (fun c217 => ?_)
      · exact k210
      · refine ite_pred (fun c240 => ?_) (fun c240 => ?_)
        · refine lt_pred (fun s255 e255 => ?_)
          have k255 : XOK s255 := by rw [e255]; exact xst_1 k210 (rg_or 8 (xr_1 k210 _) (rg_w (lo2 := 0) rl_8 (by decide) (Int.le_refl _)) (by decide) (by decide) (by decide))
          have y15_255 : rg (-2147483648) 0 (s255 0 15) := by rw [e255]; exact (show rg (-2147483648) 0 (s210 0 15) from (rg_nlt_hi (rg_full (s210 0 15)) (fun w28 => c217 (Or.inl w28)) rl_0))
          have y18_255 : rg 2 2 (s255 0 18) := by rw [e255]; exact (show rg 2 2 (s210 0 18) from (rg_eq c240 rl_2))
          exact k255
        · refine jn_pred (fun z261 => XOK z261 ∧ rg (-2147483648) 0 (z261 0 15) ∧ rg 0 1 (z261 0 18)) (fun z261 h261 => ?_) ?_
          · refine lt_pred (fun s290 e290 => ?_)
            have k290 : XOK s290 := by rw [e290]; exact xst_0_18 h261.1 (rg_w (rg_add h261.2.2 rl_1 (by decide) (by decide)) (by decide) (by decide))
            have y15_290 : rg (-2147483648) 0 (s290 0 15) := by rw [e290]; exact (show rg (-2147483648) 0 (z261 0 15) from h261.2.1)
            refine lt_pred (fun s294 e294 => ?_)
            have k294 : XOK s294 := by rw [e294]; exact ok_m_showReceived s290 k290
            exact k294
          · refine ite_pred (fun c261 => ?_) (fun c261 => ?_)
            · refine lt_pred (fun s269 e269 => ?_)
              have k269 : XOK s269 := by rw [e269]; exact xst_0_16 k210 (xr0_14 k210)
              have y15_269 : rg (-2147483648) 0 (s269 0 15) := by rw [e269]; exact (show rg (-2147483648) 0 (s210 0 15) from (rg_nlt_hi (rg_full (s210 0 15)) (fun w28 => c217 (Or.inl w28)) rl_0))
              have y18_269 : rg 0 0 (s269 0 18) := by rw [e269]; exact (show rg 0 0 (s210 0 18) from (rg_eq c261 rl_0))
              exact app_i ⟨k269, (rg_w y15_269 (by decide) (by decide)), (rg_w y18_269 (by decide) (by decide))⟩
            · refine lt_pred (fun s280 e280 => ?_)
              have k280 : XOK s280 := by rw [e280]; exact xst_0_17 k210 (xr0_14 k210)
              have y15_280 : rg (-2147483648) 0 (s280 0 15) := by rw [e280]; exact (show rg (-2147483648) 0 (s210 0 15) from (rg_nlt_hi (rg_full (s210 0 15)) (fun w28 => c217 (Or.inl w28)) rl_0))
              have y18_280 : rg 1 1 (s280 0 18) := by rw [e280]; exact (show rg 1 1 (s210 0 18) from (rg_ne_lo (rg_ne_hi (xr0_18 k210) c240 (by decide +kernel)) c261 (by decide +kernel)))
              exact app_i ⟨k280, (rg_w y15_280 (by decide) (by decide)), (rg_w y18_280 (by decide) (by decide))⟩
  · refine ite_pred (fun c4 => ?_) (fun c4 => ?_)
    · refine ite_pred (fun c56 => ?_) (fun c56 => ?_)
      · refine lt_pred (fun s66 e66 => ?_)
        have k66 : XOK s66 := by rw [e66]; exact xst_f0_13 ok
        have y20_66 : rg 0 2147483646 (s66 0 20) := by rw [e66]; exact (show rg 0 2147483646 (σ 0 20) from hs20)
        refine ite_pred (fun c73 => ?_) (fun c73 => ?_)
        · refine jn_pred (fun z83 => XOK z83 ∧ rg 0 0 (z83 0 13) ∧ rg 0 2147483646 (z83 0 20)) (fun z83 h83 => ?_) ?_
          · refine lt_pred (fun s106 e106 => ?_)
            have k106 : XOK s106 := by rw [e106]; exact xst_f0_20 h83.1
            have y13_106 : rg 0 0 (s106 0 13) := by rw [e106]; exact (show rg 0 0 (z83 0 13) from h83.2.1)
            refine ite_pred (fun c114 => ?_) (fun c114 => ?_)
            · refine lt_pred (fun s129 e129 => ?_)
              have k129 : XOK s129 := by rw [e129]; exact xst_1 k106 (rg_or 8 (xr_1 k106 _) (rg_w (lo2 := 0) rl_64 (by decide) (Int.le_refl _)) (by decide) (by decide) (by decide))
              have y13_129 : rg 0 0 (s129 0 13) := by rw [e129]; exact (show rg 0 0 (s106 0 13) from y13_106)
              have y11_129 : rg (-1) (-1) (s129 0 11) := by rw [e129]; exact (show rg (-1) (-1) (s106 0 11) from (rg_eq c114 rl_m1))
              exact app_i k129
            · exact app_i k106
          · refine ite_pred (fun c83 => ?_) (fun c83 => ?_)
            · refine lt_pred (fun s98 e98 => ?_)
              have k98 : XOK s98 := by rw [e98]; exact xst_f4 k66
              have y20_98 : rg 0 999 (s98 0 20) := by rw [e98]; exact (show rg 0 999 (s66 0 20) from (rg_lt_hi y20_66 c83 rl_1000))
              have y13_98 : rg 0 0 (s98 0 13) := by rw [e98]; exact (show rg 0 0 (s66 0 13) from (rg_eq c73 rl_0))
              exact app_i ⟨k98, (rg_w y13_98 (by decide) (by decide)), (rg_w y20_98 (by decide) (by decide))⟩
            · exact app_i ⟨k66, (rg_w (rg_eq c73 rl_0) (by decide) (by decide)), (rg_w (rg_nlt_lo y20_66 c83 rl_1000) (by decide) (by decide))⟩
        · exact app_i k66
      · exact app_i ok
    · refine lt_pred (fun s20 e20 => ?_)
      have k20 : XOK s20 := by rw [e20]; exact xst_f0_12 ok
      have y20_20 : rg 0 2147483646 (s20 0 20) := by rw [e20]; exact (show rg 0 2147483646 (σ 0 20) from hs20)
      have y13_20 : rg 0 0 (s20 0 13) := by rw [e20]; exact (show rg 0 0 (σ 0 13) from (rg_eq (Decidable.of_not_not (fun w55 => c4 (Or.inl w55))) rl_0))
      have y11_20 : rg 0 255 (s20 0 11) := by rw [e20]; exact (show rg 0 255 (σ 0 11) from (rg_ne_lo (xr0_11 ok) (fun w55 => c4 (Or.inr w55)) (by decide +kernel)))
      refine lt_pred (fun s25 e25 => ?_)
      have k25 : XOK s25 := by rw [e25]; exact xst_0_11 k20 (rg_w rl_m1 (by decide) (by decide))
      have y20_25 : rg 0 2147483646 (s25 0 20) := by rw [e25]; exact (show rg 0 2147483646 (s20 0 20) from y20_20)
      have y13_25 : rg 0 0 (s25 0 13) := by rw [e25]; exact (show rg 0 0 (s20 0 13) from y13_20)
      refine lt_pred (fun s33 e33 => ?_)
      have k33 : XOK s33 := by rw [e33]; exact xst_f0_13 k25
      have y20_33 : rg 0 2147483646 (s33 0 20) := by rw [e33]; exact (show rg 0 2147483646 (s25 0 20) from y20_25)
      refine lt_pred (fun s48 e48 => ?_)
      have k48 : XOK s48 := by rw [e48]; exact xst_1 k33 (rg_or 8 (xr_1 k33 _) (rg_w (lo2 := 0) rl_32 (by decide) (Int.le_refl _)) (by decide) (by decide) (by decide))
      have y20_48 : rg 0 2147483646 (s48 0 20) := by rw [e48]; exact (show rg 0 2147483646 (s33 0 20) from y20_33)
      exact app_i k48

set_option maxHeartbeats 4000000 in
theorem kc_m_line (σ : Sg) : (m_line σ) 0 2 = σ 0 2 + nI 0 := by
  have hk : Kc (σ 0 2) 0 σ := Kc.rf
  show Kc (σ 0 2) 0 (m_line σ)
  generalize σ 0 2 = c0 at hk ⊢
  unfold m_line
  refine jn_pred (fun z4 => Kc c0 0 z4) (fun z4 h4 => ?_) ?_
  · refine ite_pred (fun c134 => ?_) (fun c134 => ?_)
    · refine jn_pred (fun z141 => Kc c0 0 z141) (fun z141 h141 => ?_) ?_
      · exact h141
      · refine ite_pred (fun c141 => ?_) (fun c141 => ?_)
        · refine lt_pred (fun s151 e151 => ?_)
          have q151 : Kc c0 0 s151 := by rw [e151]; exact Kc.same h4 rfl
          refine lt_pred (fun s161 e161 => ?_)
          have q161 : Kc c0 0 s161 := by rw [e161]; exact Kc.same q151 rfl
          refine for_pred (N := ((s161 0 19)).toNatClampNeg) (fun i a => Kc c0 0 a) (fun i166_1 a166_1 hi166 ha166 => ?_) (fun z166 hz166 => ?_) ((s161 0 19)).toNatClampNeg 0 s161 (by omega) q161
          · refine lt_pred (fun s187 e187 => ?_)
            have q187 : Kc c0 0 s187 := by rw [e187]; exact Kc.same ha166 rfl
            exact app_i q187
          · refine lt_pred (fun s199 e199 => ?_)
            have q199 : Kc c0 0 s199 := by rw [e199]; exact Kc.same hz166 rfl
            exact app_i q199
        · exact app_i h4
    · refine lt_pred (fun s210 e210 => ?_)
      have q210 : Kc c0 0 s210 := by rw [e210]; exact Kc.same h4 rfl
      refine ite_pred (fun c217 => ?_) (fun c217 => ?_)
      · exact q210
      · refine ite_pred (fun c240 => ?_) (fun c240 => ?_)
        · refine lt_pred (fun s255 e255 => ?_)
          have q255 : Kc c0 0 s255 := by rw [e255]; exact Kc.same q210 rfl
          exact q255
        · refine jn_pred (fun z261 => Kc c0 0 z261) (fun z261 h261 => ?_) ?_
          · refine lt_pred (fun s290 e290 => ?_)
            have q290 : Kc c0 0 s290 := by rw [e290]; exact Kc.same h261 rfl
            refine lt_pred (fun s294 e294 => ?_)
            have q294 : Kc c0 0 s294 := by rw [e294]; exact Kc.tr q290 (kc_m_showReceived s290)
            exact q294
          · refine ite_pred (fun c261 => ?_) (fun c261 => ?_)
            · refine lt_pred (fun s269 e269 => ?_)
              have q269 : Kc c0 0 s269 := by rw [e269]; exact Kc.same q210 rfl
              exact app_i q269
            · refine lt_pred (fun s280 e280 => ?_)
              have q280 : Kc c0 0 s280 := by rw [e280]; exact Kc.same q210 rfl
              exact app_i q280
  · refine ite_pred (fun c4 => ?_) (fun c4 => ?_)
    · refine ite_pred (fun c56 => ?_) (fun c56 => ?_)
      · refine lt_pred (fun s66 e66 => ?_)
        have q66 : Kc c0 0 s66 := by rw [e66]; exact Kc.same hk rfl
        refine ite_pred (fun c73 => ?_) (fun c73 => ?_)
        · refine jn_pred (fun z83 => Kc c0 0 z83) (fun z83 h83 => ?_) ?_
          · refine lt_pred (fun s106 e106 => ?_)
            have q106 : Kc c0 0 s106 := by rw [e106]; exact Kc.same h83 rfl
            refine ite_pred (fun c114 => ?_) (fun c114 => ?_)
            · refine lt_pred (fun s129 e129 => ?_)
              have q129 : Kc c0 0 s129 := by rw [e129]; exact Kc.same q106 rfl
              exact app_i q129
            · exact app_i q106
          · refine ite_pred (fun c83 => ?_) (fun c83 => ?_)
            · refine lt_pred (fun s98 e98 => ?_)
              have q98 : Kc c0 0 s98 := by rw [e98]; exact Kc.same q66 rfl
              exact app_i q98
            · exact app_i q66
        · exact app_i q66
      · exact app_i hk
    · refine lt_pred (fun s20 e20 => ?_)
      have q20 : Kc c0 0 s20 := by rw [e20]; exact Kc.same hk rfl
      refine lt_pred (fun s25 e25 => ?_)
      have q25 : Kc c0 0 s25 := by rw [e25]; exact Kc.same q20 rfl
      refine lt_pred (fun s33 e33 => ?_)
      have q33 : Kc c0 0 s33 := by rw [e33]; exact Kc.same q25 rfl
      refine lt_pred (fun s48 e48 => ?_)
      have q48 : Kc c0 0 s48 := by rw [e48]; exact Kc.same q33 rfl
      exact app_i q48

set_option maxHeartbeats 4000000 in
theorem hm_m_line (σ : Sg) {B m : Int} (hk : HBm B m σ) (hm : m ≤ 1500270000) (hB : B ≤ 4294967290) : HBm (B + 1) m (m_line σ) := by
  show HBm (B + 1) m (m_line σ)
  unfold m_line
  refine jn_pred (fun z => HBm (B + 1) m z) (fun z4 h4 => ?_) ?_
  · refine ite_pred (fun c => ?_) (fun c => ?_)
    · refine jn_pred (fun z => HBm (B + 1) m z) (fun z h => h) ?_
      refine ite_pred (fun c2 => ?_) (fun c2 => ?_)
      · refine lt_pred (fun s151 e151 => ?_)
        refine lt_pred (fun s161 e161 => ?_)
        have q : HBm (B + 1) m s161 := by rw [e161, e151]; exact HBm.same h4 rfl rfl rfl
        refine for_pred (N := (s161 0 19).toNatClampNeg) (fun i a => HBm (B + 1) m a) (fun i a hi ha => ?_) (fun z hz => ?_) _ 0 s161 (by omega) q
        · refine lt_pred (fun s187 e187 => ?_)
          exact app_i (by rw [e187]; exact HBm.same ha rfl rfl rfl)
        · refine lt_pred (fun s199 e199 => ?_)
          exact app_i (by rw [e199]; exact HBm.same hz rfl rfl rfl)
      · exact app_i h4
    · refine lt_pred (fun s210 e210 => ?_)
      have q : HBm (B + 1) m s210 := by rw [e210]; exact HBm.same h4 rfl rfl rfl
      refine ite_pred (fun c2 => q) (fun c2 => ?_)
      refine ite_pred (fun c3 => ?_) (fun c3 => ?_)
      · refine lt_pred (fun s255 e255 => ?_)
        rw [e255]; exact HBm.same q rfl rfl rfl
      · refine jn_pred (fun z => HBm (B + 1) m z) (fun z261 h261 => ?_) ?_
        · refine lt_pred (fun s290 e290 => ?_)
          have q2 : HBm (B + 1) m s290 := by rw [e290]; exact HBm.same h261 rfl rfl rfl
          refine lt_pred (fun s294 e294 => ?_)
          rw [e294]; exact HBm.kp q2 (kp_m_showReceived s290 (ka := s290 0 20) (kb := s290 0 13) ⟨rfl, rfl, q2.2⟩ (by omega))
        · refine ite_pred (fun c4 => ?_) (fun c4 => ?_)
          · refine lt_pred (fun s e => ?_)
            exact app_i (by rw [e]; exact HBm.same q rfl rfl rfl)
          · refine lt_pred (fun s e => ?_)
            exact app_i (by rw [e]; exact HBm.same q rfl rfl rfl)
  · refine ite_pred (fun c => ?_) (fun c => ?_)
    · refine ite_pred (fun c0 => ?_) (fun c0 => ?_)
      · have cn : ¬ σ 0 13 = 0 := fun q => by rw [q] at c0; exact absurd c0 (by decide)
        refine lt_pred (fun s66 e66 => ?_)
        refine ite_pred (fun c2 => ?_) (fun c2 => ?_)
        · refine jn_pred (fun z => z 0 20 = σ 0 20 ∧ z 0 13 = 0 ∧ z 0 1 = σ 0 1) (fun z62 h62 => ?_) ?_
          · refine lt_pred (fun s85 e85 => ?_)
            have q : HBm (B + 1) m s85 := HBm.inc hk cn hB (by rw [e85]; show z62 0 20 + 1 = _; rw [h62.1]) (by rw [e85]; exact h62.2.1) (by rw [e85]; exact h62.2.2)
            refine ite_pred (fun c3 => ?_) (fun c3 => ?_)
            · refine lt_pred (fun s97 e97 => ?_)
              exact app_i (by rw [e97]; exact HBm.same q rfl rfl rfl)
            · exact app_i q
          · refine ite_pred (fun c3 => ?_) (fun c3 => ?_)
            · refine lt_pred (fun s77 e77 => ?_)
              exact app_i ⟨by rw [e77, e66]; rfl, by rw [e77]; exact c2, by rw [e77, e66]; rfl⟩
            · exact app_i ⟨by rw [e66]; rfl, c2, by rw [e66]; rfl⟩
        · exact app_i (HBm.w (HBm.decr hk cn (by rw [e66]; rfl) (by rw [e66]; rfl)) (by omega) (by omega))
      · exact app_i (HBm.w hk (by omega) (by omega))
    · have c0 : σ 0 13 = 0 := Decidable.of_not_not (fun q => c (Or.inl q))
      refine lt_pred (fun s20 e20 => ?_)
      refine lt_pred (fun s25 e25 => ?_)
      refine lt_pred (fun s33 e33 => ?_)
      refine lt_pred (fun s48 e48 => ?_)
      exact app_i (HBm.start hk c0 (by rw [e48, e33, e25, e20]; rfl) (by rw [e48, e33, e25, e20]; rfl))

def m_windows (σ : Sg) : Sg :=
  lt ((
    if 0 < (σ 0 26) then
      lt (sst σ 0 26 ((σ 0 26) - 1)) fun s14 =>
      if (s14 0 26) = 0 then
        lt (sst s14 1 87 ((s14 1 87) &&& 224)) fun s36 =>
        s36
      else
        s14
    else
      σ) : Sg) fun z4 =>
  lt ((
    if 0 < (z4 0 23) then
      lt (sst z4 0 23 ((z4 0 23) - 1)) fun s51 =>
      if (s51 0 23) = 0 then
        lt (sst s51 1 96 ((s51 1 96) &&& 239)) fun s73 =>
        s73
      else
        s51
    else
      z4) : Sg) fun z41 =>
  lt ((
    if 0 < (z41 0 25) then
      lt (sst z41 0 25 ((z41 0 25) - 1)) fun s88 =>
      if (s88 0 25) = 0 then
        lt (sst s88 1 85 ((s88 1 85) &&& 254)) fun s110 =>
        s110
      else
        s88
    else
      z41) : Sg) fun z78 =>
  lt ((
    if 0 < (z78 0 21) then
      lt (sst z78 0 21 ((z78 0 21) - 1)) fun s125 =>
      if (s125 0 21) = 0 then
        lt (sst s125 1 63 ((s125 1 63) &&& 251)) fun s147 =>
        s147
      else
        s125
    else
      z78) : Sg) fun z115 =>
  lt ((
    if 0 < (z115 0 27) then
      lt (sst z115 0 27 ((z115 0 27) - 1)) fun s162 =>
      if (s162 0 27) = 0 then
        lt (sst s162 1 87 ((s162 1 87) &&& 224)) fun s184 =>
        s184
      else
        s162
    else
      z115) : Sg) fun z152 =>
  z152
set_option maxHeartbeats 4000000 in
theorem ok_m_windows (σ : Sg) (ok : XOK σ) : XOK (m_windows σ) := by
  unfold m_windows
  refine jn_pred (fun z4 => XOK z4) (fun z4 h4 => ?_) ?_
  · refine jn_pred (fun z41 => XOK z41) (fun z41 h41 => ?_) ?_
    · refine jn_pred (fun z78 => XOK z78) (fun z78 h78 => ?_) ?_
      · refine jn_pred (fun z115 => XOK z115) (fun z115 h115 => ?_) ?_
        · refine jn_pred (fun z152 => XOK z152) (fun z152 h152 => ?_) ?_
          · exact h152
          · refine ite_pred (fun c152 => ?_) (fun c152 => ?_)
            · refine lt_pred (fun s162 e162 => ?_)
              have k162 : XOK s162 := by rw [e162]; exact xst_f0_27 h115
              refine ite_pred (fun c169 => ?_) (fun c169 => ?_)
              · refine lt_pred (fun s184 e184 => ?_)
                have k184 : XOK s184 := by rw [e184]; exact xst_1 k162 (rg_w (rg_and_r (rg_w (lo2 := 0) rl_224 (by decide) (Int.le_refl _))) (by decide) (by decide))
                have y27_184 : rg 0 0 (s184 0 27) := by rw [e184]; exact (show rg 0 0 (s162 0 27) from (rg_eq c169 rl_0))
                exact app_i k184
              · exact app_i k162
            · exact app_i h115
        · refine ite_pred (fun c115 => ?_) (fun c115 => ?_)
          · refine lt_pred (fun s125 e125 => ?_)
            have k125 : XOK s125 := by rw [e125]; exact xst_f0_21 h78
            refine ite_pred (fun c132 => ?_) (fun c132 => ?_)
            · refine lt_pred (fun s147 e147 => ?_)
              have k147 : XOK s147 := by rw [e147]; exact xst_1 k125 (rg_w (rg_and_r (rg_w (lo2 := 0) rl_251 (by decide) (Int.le_refl _))) (by decide) (by decide))
              have y21_147 : rg 0 0 (s147 0 21) := by rw [e147]; exact (show rg 0 0 (s125 0 21) from (rg_eq c132 rl_0))
              exact app_i k147
            · exact app_i k125
          · exact app_i h78
      · refine ite_pred (fun c78 => ?_) (fun c78 => ?_)
        · refine lt_pred (fun s88 e88 => ?_)
          have k88 : XOK s88 := by rw [e88]; exact xst_f0_25 h41
          refine ite_pred (fun c95 => ?_) (fun c95 => ?_)
          · refine lt_pred (fun s110 e110 => ?_)
            have k110 : XOK s110 := by rw [e110]; exact xst_1 k88 (rg_w (rg_and_r (rg_w (lo2 := 0) rl_254 (by decide) (Int.le_refl _))) (by decide) (by decide))
            have y25_110 : rg 0 0 (s110 0 25) := by rw [e110]; exact (show rg 0 0 (s88 0 25) from (rg_eq c95 rl_0))
            exact app_i k110
          · exact app_i k88
        · exact app_i h41
    · refine ite_pred (fun c41 => ?_) (fun c41 => ?_)
      · refine lt_pred (fun s51 e51 => ?_)
        have k51 : XOK s51 := by rw [e51]; exact xst_f0_23 h4
        refine ite_pred (fun c58 => ?_) (fun c58 => ?_)
        · refine lt_pred (fun s73 e73 => ?_)
          have k73 : XOK s73 := by rw [e73]; exact xst_1 k51 (rg_w (rg_and_r (rg_w (lo2 := 0) rl_239 (by decide) (Int.le_refl _))) (by decide) (by decide))
          have y23_73 : rg 0 0 (s73 0 23) := by rw [e73]; exact (show rg 0 0 (s51 0 23) from (rg_eq c58 rl_0))
          exact app_i k73
        · exact app_i k51
      · exact app_i h4
  · refine ite_pred (fun c4 => ?_) (fun c4 => ?_)
    · refine lt_pred (fun s14 e14 => ?_)
      have k14 : XOK s14 := by rw [e14]; exact xst_f0_26 ok
      refine ite_pred (fun c21 => ?_) (fun c21 => ?_)
      · refine lt_pred (fun s36 e36 => ?_)
        have k36 : XOK s36 := by rw [e36]; exact xst_1 k14 (rg_w (rg_and_r (rg_w (lo2 := 0) rl_224 (by decide) (Int.le_refl _))) (by decide) (by decide))
        have y26_36 : rg 0 0 (s36 0 26) := by rw [e36]; exact (show rg 0 0 (s14 0 26) from (rg_eq c21 rl_0))
        exact app_i k36
      · exact app_i k14
    · exact app_i ok

set_option maxHeartbeats 4000000 in
theorem kp_m_windows (σ : Sg) {ka kb : Int32} {m : Int} (hk : Kp ka kb m σ) (hm : m ≤ 1500290000) : Kp ka kb m (m_windows σ) := by
  have hm0 : 0 ≤ m := hk.nn
  show Kp ka kb m (m_windows σ)
  unfold m_windows
  refine jn_pred (fun z4 => Kp ka kb m z4) (fun z4 h4 => ?_) ?_
  · refine jn_pred (fun z41 => Kp ka kb m z41) (fun z41 h41 => ?_) ?_
    · refine jn_pred (fun z78 => Kp ka kb m z78) (fun z78 h78 => ?_) ?_
      · refine jn_pred (fun z115 => Kp ka kb m z115) (fun z115 h115 => ?_) ?_
        · refine jn_pred (fun z152 => Kp ka kb m z152) (fun z152 h152 => ?_) ?_
          · exact Kp.w h152 (by omega)
          · refine ite_pred (fun c152 => ?_) (fun c152 => ?_)
            · refine lt_pred (fun s162 e162 => ?_)
              have q162 : Kp ka kb m s162 := by rw [e162]; exact Kp.same h115 rfl rfl rfl
              refine ite_pred (fun c169 => ?_) (fun c169 => ?_)
              · refine lt_pred (fun s184 e184 => ?_)
                have q184 : Kp ka kb m s184 := by rw [e184]; exact Kp.same q162 rfl rfl rfl
                exact app_i (Kp.w q184 (by omega))
              · exact app_i (Kp.w q162 (by omega))
            · exact app_i (Kp.w h115 (by omega))
        · refine ite_pred (fun c115 => ?_) (fun c115 => ?_)
          · refine lt_pred (fun s125 e125 => ?_)
            have q125 : Kp ka kb m s125 := by rw [e125]; exact Kp.same h78 rfl rfl rfl
            refine ite_pred (fun c132 => ?_) (fun c132 => ?_)
            · refine lt_pred (fun s147 e147 => ?_)
              have q147 : Kp ka kb m s147 := by rw [e147]; exact Kp.same q125 rfl rfl rfl
              exact app_i (Kp.w q147 (by omega))
            · exact app_i (Kp.w q125 (by omega))
          · exact app_i (Kp.w h78 (by omega))
      · refine ite_pred (fun c78 => ?_) (fun c78 => ?_)
        · refine lt_pred (fun s88 e88 => ?_)
          have q88 : Kp ka kb m s88 := by rw [e88]; exact Kp.same h41 rfl rfl rfl
          refine ite_pred (fun c95 => ?_) (fun c95 => ?_)
          · refine lt_pred (fun s110 e110 => ?_)
            have q110 : Kp ka kb m s110 := by rw [e110]; exact Kp.same q88 rfl rfl rfl
            exact app_i (Kp.w q110 (by omega))
          · exact app_i (Kp.w q88 (by omega))
        · exact app_i (Kp.w h41 (by omega))
    · refine ite_pred (fun c41 => ?_) (fun c41 => ?_)
      · refine lt_pred (fun s51 e51 => ?_)
        have q51 : Kp ka kb m s51 := by rw [e51]; exact Kp.same h4 rfl rfl rfl
        refine ite_pred (fun c58 => ?_) (fun c58 => ?_)
        · refine lt_pred (fun s73 e73 => ?_)
          have q73 : Kp ka kb m s73 := by rw [e73]; exact Kp.same q51 rfl rfl rfl
          exact app_i (Kp.w q73 (by omega))
        · exact app_i (Kp.w q51 (by omega))
      · exact app_i (Kp.w h4 (by omega))
  · refine ite_pred (fun c4 => ?_) (fun c4 => ?_)
    · refine lt_pred (fun s14 e14 => ?_)
      have q14 : Kp ka kb m s14 := by rw [e14]; exact Kp.same hk rfl rfl rfl
      refine ite_pred (fun c21 => ?_) (fun c21 => ?_)
      · refine lt_pred (fun s36 e36 => ?_)
        have q36 : Kp ka kb m s36 := by rw [e36]; exact Kp.same q14 rfl rfl rfl
        exact app_i (Kp.w q36 (by omega))
      · exact app_i (Kp.w q14 (by omega))
    · exact app_i (Kp.w hk (by omega))

set_option maxHeartbeats 4000000 in
theorem kc_m_windows (σ : Sg) : (m_windows σ) 0 2 = σ 0 2 + nI 0 := by
  have hk : Kc (σ 0 2) 0 σ := Kc.rf
  show Kc (σ 0 2) 0 (m_windows σ)
  generalize σ 0 2 = c0 at hk ⊢
  unfold m_windows
  refine jn_pred (fun z4 => Kc c0 0 z4) (fun z4 h4 => ?_) ?_
  · refine jn_pred (fun z41 => Kc c0 0 z41) (fun z41 h41 => ?_) ?_
    · refine jn_pred (fun z78 => Kc c0 0 z78) (fun z78 h78 => ?_) ?_
      · refine jn_pred (fun z115 => Kc c0 0 z115) (fun z115 h115 => ?_) ?_
        · refine jn_pred (fun z152 => Kc c0 0 z152) (fun z152 h152 => ?_) ?_
          · exact h152
          · refine ite_pred (fun c152 => ?_) (fun c152 => ?_)
            · refine lt_pred (fun s162 e162 => ?_)
              have q162 : Kc c0 0 s162 := by rw [e162]; exact Kc.same h115 rfl
              refine ite_pred (fun c169 => ?_) (fun c169 => ?_)
              · refine lt_pred (fun s184 e184 => ?_)
                have q184 : Kc c0 0 s184 := by rw [e184]; exact Kc.same q162 rfl
                exact app_i q184
              · exact app_i q162
            · exact app_i h115
        · refine ite_pred (fun c115 => ?_) (fun c115 => ?_)
          · refine lt_pred (fun s125 e125 => ?_)
            have q125 : Kc c0 0 s125 := by rw [e125]; exact Kc.same h78 rfl
            refine ite_pred (fun c132 => ?_) (fun c132 => ?_)
            · refine lt_pred (fun s147 e147 => ?_)
              have q147 : Kc c0 0 s147 := by rw [e147]; exact Kc.same q125 rfl
              exact app_i q147
            · exact app_i q125
          · exact app_i h78
      · refine ite_pred (fun c78 => ?_) (fun c78 => ?_)
        · refine lt_pred (fun s88 e88 => ?_)
          have q88 : Kc c0 0 s88 := by rw [e88]; exact Kc.same h41 rfl
          refine ite_pred (fun c95 => ?_) (fun c95 => ?_)
          · refine lt_pred (fun s110 e110 => ?_)
            have q110 : Kc c0 0 s110 := by rw [e110]; exact Kc.same q88 rfl
            exact app_i q110
          · exact app_i q88
        · exact app_i h41
    · refine ite_pred (fun c41 => ?_) (fun c41 => ?_)
      · refine lt_pred (fun s51 e51 => ?_)
        have q51 : Kc c0 0 s51 := by rw [e51]; exact Kc.same h4 rfl
        refine ite_pred (fun c58 => ?_) (fun c58 => ?_)
        · refine lt_pred (fun s73 e73 => ?_)
          have q73 : Kc c0 0 s73 := by rw [e73]; exact Kc.same q51 rfl
          exact app_i q73
        · exact app_i q51
      · exact app_i h4
  · refine ite_pred (fun c4 => ?_) (fun c4 => ?_)
    · refine lt_pred (fun s14 e14 => ?_)
      have q14 : Kc c0 0 s14 := by rw [e14]; exact Kc.same hk rfl
      refine ite_pred (fun c21 => ?_) (fun c21 => ?_)
      · refine lt_pred (fun s36 e36 => ?_)
        have q36 : Kc c0 0 s36 := by rw [e36]; exact Kc.same q14 rfl
        exact app_i q36
      · exact app_i q14
    · exact app_i hk

def m_timer (σ : Sg) : Sg :=
  lt (sst σ 0 10 (((σ 0 10) + 1) &&& 1023)) fun s11 =>
  lt (((s11 1 69) &&& 7) : Int32) fun v24 =>
  lt ((
    if (v24 = 1) ∨ (((v24 = 2) ∧ ((((s11 0 10)) - ((s11 0 10)) / (8) * (8)) = 0)) ∨ (((v24 = 3) ∧ ((((s11 0 10)) - ((s11 0 10)) / (64) * (64)) = 0)) ∨ (((v24 = 4) ∧ ((((s11 0 10)) - ((s11 0 10)) / (256) * (256)) = 0)) ∨ ((v24 = 5) ∧ ((s11 0 10) = 0))))) then
      1
    else
      0) : Int32) fun z27 =>
  if z27 = 0 then
    s11
  else
    lt ((
      if (((s11 1 68) &&& 2) = 0) ∨ (¬ ((s11 1 70) = (s11 1 71))) then
        lt (sst s11 1 70 (((s11 1 70) + 1) &&& 255)) fun s158 =>
        if (s158 1 70) = 0 then
          lt (sst s158 1 53 ((s158 1 53) ||| 1)) fun s179 =>
          s179
        else
          s158
      else
        lt (sst s11 1 70 0) fun s135 =>
        s135) : Sg) fun z108 =>
    lt ((
      if (z108 1 70) = (z108 1 71) then
        lt (sst z108 1 53 ((z108 1 53) ||| 2)) fun s207 =>
        s207
      else
        z108) : Sg) fun z194 =>
    z194
set_option maxHeartbeats 4000000 in
theorem ok_m_timer (σ : Sg) (ok : XOK σ) : XOK (m_timer σ) := by
  unfold m_timer
  refine lt_pred (fun s11 e11 => ?_)
  have k11 : XOK s11 := by rw [e11]; exact xst_f0_10 ok
  refine lt_pred (fun v24 e24 => ?_)
  have f24 : rg 0 7 v24 := by rw [e24]; exact (rg_and_r (rg_w (lo2 := 0) rl_7 (by decide) (Int.le_refl _)))
  refine jn_pred (fun z27 => rg 0 1 z27) (fun z27 h27 => ?_) ?_
  · refine ite_pred (fun c95 => ?_) (fun c95 => ?_)
    · exact k11
    · refine jn_pred (fun z108 => XOK z108) (fun z108 h108 => ?_) ?_
      · refine jn_pred (fun z194 => XOK z194) (fun z194 h194 => ?_) ?_
        · exact h194
        · refine ite_pred (fun c194 => ?_) (fun c194 => ?_)
          · refine lt_pred (fun s207 e207 => ?_)
            have k207 : XOK s207 := by rw [e207]; exact xst_1 h108 (rg_or 8 (xr_1 h108 _) (rg_w (lo2 := 0) rl_2 (by decide) (Int.le_refl _)) (by decide) (by decide) (by decide))
            exact app_i k207
          · exact app_i h108
      · refine ite_pred (fun c108 => ?_) (fun c108 => ?_)
        · refine lt_pred (fun s158 e158 => ?_)
          have k158 : XOK s158 := by rw [e158]; exact xst_1 k11 (rg_and_r (rg_w (lo2 := 0) rl_255 (by decide) (Int.le_refl _)))
          refine ite_pred (fun c166 => ?_) (fun c166 => ?_)
          · refine lt_pred (fun s179 e179 => ?_)
            have k179 : XOK s179 := by rw [e179]; exact xst_1 k158 (rg_or 8 (xr_1 k158 _) (rg_w (lo2 := 0) rl_1 (by decide) (Int.le_refl _)) (by decide) (by decide) (by decide))
            exact app_i k179
          · exact app_i k158
        · refine lt_pred (fun s135 e135 => ?_)
          have k135 : XOK s135 := by rw [e135]; exact xst_1 k11 (rg_w rl_0 (by decide) (by decide))
          exact app_i k135
  · refine ite_pred (fun c27 => ?_) (fun c27 => ?_)
    · exact app_i (rg_w rl_1 (by decide) (by decide))
    · exact app_i (rg_w rl_0 (by decide) (by decide))

set_option maxHeartbeats 4000000 in
theorem kp_m_timer (σ : Sg) {ka kb : Int32} {m : Int} (hk : Kp ka kb m σ) (hm : m ≤ 1500290000) : Kp ka kb m (m_timer σ) := by
  have hm0 : 0 ≤ m := hk.nn
  show Kp ka kb m (m_timer σ)
  unfold m_timer
  refine lt_pred (fun s11 e11 => ?_)
  have q11 : Kp ka kb m s11 := by rw [e11]; exact Kp.same hk rfl rfl rfl
  refine lt_pred (fun v24 e24 => ?_)
  refine jn_pred (fun z27 => True) (fun z27 h27 => ?_) ?_
  · refine ite_pred (fun c95 => ?_) (fun c95 => ?_)
    · exact Kp.w q11 (by omega)
    · refine jn_pred (fun z108 => Kp ka kb m z108) (fun z108 h108 => ?_) ?_
      · refine jn_pred (fun z194 => Kp ka kb m z194) (fun z194 h194 => ?_) ?_
        · exact Kp.w h194 (by omega)
        · refine ite_pred (fun c194 => ?_) (fun c194 => ?_)
          · refine lt_pred (fun s207 e207 => ?_)
            have q207 : Kp ka kb m s207 := by rw [e207]; exact Kp.same h108 rfl rfl rfl
            exact app_i (Kp.w q207 (by omega))
          · exact app_i (Kp.w h108 (by omega))
      · refine ite_pred (fun c108 => ?_) (fun c108 => ?_)
        · refine lt_pred (fun s158 e158 => ?_)
          have q158 : Kp ka kb m s158 := by rw [e158]; exact Kp.same q11 rfl rfl rfl
          refine ite_pred (fun c166 => ?_) (fun c166 => ?_)
          · refine lt_pred (fun s179 e179 => ?_)
            have q179 : Kp ka kb m s179 := by rw [e179]; exact Kp.same q158 rfl rfl rfl
            exact app_i (Kp.w q179 (by omega))
          · exact app_i (Kp.w q158 (by omega))
        · refine lt_pred (fun s135 e135 => ?_)
          have q135 : Kp ka kb m s135 := by rw [e135]; exact Kp.same q11 rfl rfl rfl
          exact app_i (Kp.w q135 (by omega))
  · refine ite_pred (fun c27 => ?_) (fun c27 => ?_)
    · exact app_i trivial
    · exact app_i trivial

set_option maxHeartbeats 4000000 in
theorem kc_m_timer (σ : Sg) : (m_timer σ) 0 2 = σ 0 2 + nI 0 := by
  have hk : Kc (σ 0 2) 0 σ := Kc.rf
  show Kc (σ 0 2) 0 (m_timer σ)
  generalize σ 0 2 = c0 at hk ⊢
  unfold m_timer
  refine lt_pred (fun s11 e11 => ?_)
  have q11 : Kc c0 0 s11 := by rw [e11]; exact Kc.same hk rfl
  refine lt_pred (fun v24 e24 => ?_)
  refine jn_pred (fun z27 => True) (fun z27 h27 => ?_) ?_
  · refine ite_pred (fun c95 => ?_) (fun c95 => ?_)
    · exact q11
    · refine jn_pred (fun z108 => Kc c0 0 z108) (fun z108 h108 => ?_) ?_
      · refine jn_pred (fun z194 => Kc c0 0 z194) (fun z194 h194 => ?_) ?_
        · exact h194
        · refine ite_pred (fun c194 => ?_) (fun c194 => ?_)
          · refine lt_pred (fun s207 e207 => ?_)
            have q207 : Kc c0 0 s207 := by rw [e207]; exact Kc.same h108 rfl
            exact app_i q207
          · exact app_i h108
      · refine ite_pred (fun c108 => ?_) (fun c108 => ?_)
        · refine lt_pred (fun s158 e158 => ?_)
          have q158 : Kc c0 0 s158 := by rw [e158]; exact Kc.same q11 rfl
          refine ite_pred (fun c166 => ?_) (fun c166 => ?_)
          · refine lt_pred (fun s179 e179 => ?_)
            have q179 : Kc c0 0 s179 := by rw [e179]; exact Kc.same q158 rfl
            exact app_i q179
          · exact app_i q158
        · refine lt_pred (fun s135 e135 => ?_)
          have q135 : Kc c0 0 s135 := by rw [e135]; exact Kc.same q11 rfl
          exact app_i q135
  · refine ite_pred (fun c27 => ?_) (fun c27 => ?_)
    · exact app_i trivial
    · exact app_i trivial

def m_dog (σ : Sg) : Int32 × Sg :=
  if ((σ 1 96) &&& 72) = 0 then
    lt (sst σ 0 24 0) fun s15 =>
    (1, s15)
  else
    lt (sst σ 0 24 ((σ 0 24) + 1)) fun s27 =>
    lt ((((s27 1 96) &&& 7) ||| (((s27 1 96) >>> (2 : Int32)) &&& 8)) : Int32) fun v53 =>
    lt ((
      if 11 < v53 then
        11
      else
        v53) : Int32) fun z64 =>
    if (s27 0 24) < ((4096 : Int32) <<< (z64 &&& 31)) then
      (1, s27)
    else
      lt (sst s27 0 24 0) fun s81 =>
      if ((s81 1 96) &&& 64) = 0 then
        lt (sst s81 0 5 ((s81 0 5) + 1)) fun s119 =>
        lt (m_restart s119 8) fun s125 =>
        (0, s125)
      else
        lt (sst s81 1 96 ((s81 1 96) ||| 128)) fun s109 =>
        (1, s109)
set_option maxHeartbeats 4000000 in
theorem ok_m_dog (σ : Sg) (ok : XOK σ) : (Pri XOK 0 1) (m_dog σ) := by
  unfold m_dog
  refine ite_pred (fun c10 => ?_) (fun c10 => ?_)
  · refine lt_pred (fun s15 e15 => ?_)
    have k15 : XOK s15 := by rw [e15]; exact xst_f0_24 ok
    exact ⟨k15, (rg_w rl_1 (by decide) (by decide))⟩
  · refine lt_pred (fun s27 e27 => ?_)
    have k27 : XOK s27 := by rw [e27]; exact xst_f0_24 ok
    refine lt_pred (fun v53 e53 => ?_)
    have f53 : rg 0 15 v53 := by rw [e53]; exact (rg_or 4 (rg_and_r (rg_w (lo2 := 0) rl_7 (by decide) (Int.le_refl _))) (rg_and_r (rg_w (lo2 := 0) rl_8 (by decide) (Int.le_refl _))) (by decide) (by decide) (by decide))
    refine jn_pred (fun z64 => rg 0 11 z64) (fun z64 h64 => ?_) ?_
    · refine ite_pred (fun c74 => ?_) (fun c74 => ?_)
      · exact ⟨k27, (rg_w rl_1 (by decide) (by decide))⟩
      · refine lt_pred (fun s81 e81 => ?_)
        have k81 : XOK s81 := by rw [e81]; exact xst_f0_24 k27
        refine ite_pred (fun c94 => ?_) (fun c94 => ?_)
        · refine lt_pred (fun s119 e119 => ?_)
          have k119 : XOK s119 := by rw [e119]; exact xst_f0_5 k81
          refine lt_pred (fun s125 e125 => ?_)
          have k125 : XOK s125 := by rw [e125]; exact ok_m_restart s119 8 k119 (rg_w rl_8 (by decide) (by decide))
          exact ⟨k125, (rg_w rl_0 (by decide) (by decide))⟩
        · refine lt_pred (fun s109 e109 => ?_)
          have k109 : XOK s109 := by rw [e109]; exact xst_1 k81 (rg_or 8 (xr_1 k81 _) (rg_w (lo2 := 0) rl_128 (by decide) (Int.le_refl _)) (by decide) (by decide) (by decide))
          exact ⟨k109, (rg_w rl_1 (by decide) (by decide))⟩
    · refine ite_pred (fun c64 => ?_) (fun c64 => ?_)
      · exact app_i (rg_w rl_11 (by decide) (by decide))
      · exact app_i (rg_nlt_hi f53 c64 rl_11)

set_option maxHeartbeats 4000000 in
theorem hm_m_dog (σ : Sg) {B m : Int} (hk : HBm B m σ) (hm : m ≤ 1500270000) : HBm B m (m_dog σ).2 := by
  have hm0 : 0 ≤ m := hk.nn
  show HBmi B m (m_dog σ)
  unfold m_dog
  refine ite_pred (fun c10 => ?_) (fun c10 => ?_)
  · refine lt_pred (fun s15 e15 => ?_)
    have q15 : HBm B m s15 := by rw [e15]; exact HBm.same hk rfl rfl rfl
    exact HBm.w q15 (by omega) (by omega)
  · refine lt_pred (fun s27 e27 => ?_)
    have q27 : HBm B m s27 := by rw [e27]; exact HBm.same hk rfl rfl rfl
    refine lt_pred (fun v53 e53 => ?_)
    refine jn_pred (fun z64 => True) (fun z64 h64 => ?_) ?_
    · refine ite_pred (fun c74 => ?_) (fun c74 => ?_)
      · exact HBm.w q27 (by omega) (by omega)
      · refine lt_pred (fun s81 e81 => ?_)
        have q81 : HBm B m s81 := by rw [e81]; exact HBm.same q27 rfl rfl rfl
        refine ite_pred (fun c94 => ?_) (fun c94 => ?_)
        · refine lt_pred (fun s119 e119 => ?_)
          have q119 : HBm B m s119 := by rw [e119]; exact HBm.same q81 rfl rfl rfl
          refine lt_pred (fun s125 e125 => ?_)
          have q125 : HBm B m s125 := by rw [e125]; exact HBm.w (hm_m_restart s119 8 q119 (by omega) ) (by omega) (by omega)
          exact HBm.w q125 (by omega) (by omega)
        · refine lt_pred (fun s109 e109 => ?_)
          have q109 : HBm B m s109 := by rw [e109]; exact HBm.same q81 rfl rfl rfl
          exact HBm.w q109 (by omega) (by omega)
    · refine ite_pred (fun c64 => ?_) (fun c64 => ?_)
      · exact app_i trivial
      · exact app_i trivial

set_option maxHeartbeats 4000000 in
theorem kc_m_dog (σ : Sg) : (m_dog σ).2 0 2 = σ 0 2 + nI 0 := by
  have hk : Kc (σ 0 2) 0 σ := Kc.rf
  show Kci (σ 0 2) 0 (m_dog σ)
  generalize σ 0 2 = c0 at hk ⊢
  unfold m_dog
  refine ite_pred (fun c10 => ?_) (fun c10 => ?_)
  · refine lt_pred (fun s15 e15 => ?_)
    have q15 : Kc c0 0 s15 := by rw [e15]; exact Kc.same hk rfl
    exact q15
  · refine lt_pred (fun s27 e27 => ?_)
    have q27 : Kc c0 0 s27 := by rw [e27]; exact Kc.same hk rfl
    refine lt_pred (fun v53 e53 => ?_)
    refine jn_pred (fun z64 => True) (fun z64 h64 => ?_) ?_
    · refine ite_pred (fun c74 => ?_) (fun c74 => ?_)
      · exact q27
      · refine lt_pred (fun s81 e81 => ?_)
        have q81 : Kc c0 0 s81 := by rw [e81]; exact Kc.same q27 rfl
        refine ite_pred (fun c94 => ?_) (fun c94 => ?_)
        · refine lt_pred (fun s119 e119 => ?_)
          have q119 : Kc c0 0 s119 := by rw [e119]; exact Kc.same q81 rfl
          refine lt_pred (fun s125 e125 => ?_)
          have q125 : Kc c0 0 s125 := by rw [e125]; exact Kc.tr q119 (kc_m_restart s119 8)
          exact q125
        · refine lt_pred (fun s109 e109 => ?_)
          have q109 : Kc c0 0 s109 := by rw [e109]; exact Kc.same q81 rfl
          exact q109
    · refine ite_pred (fun c64 => ?_) (fun c64 => ?_)
      · exact app_i trivial
      · exact app_i trivial

def m_passes (σ : Sg) : Int32 × Sg :=
  lt (sst σ 0 2 ((σ 0 2) + 1)) fun s7 =>
  lt (m_windows s7) fun s11 =>
  lt (m_timer s11) fun s15 =>
  lt (m_line s15) fun s19 =>
  lt ((
    if 0 < (s19 0 22) then
      lt (sst s19 0 22 ((s19 0 22) - 1)) fun s36 =>
      if (s36 0 22) = 0 then
        lt (sst s36 1 63 ((s36 1 63) &&& 253)) fun s58 =>
        s58
      else
        s36
    else
      s19) : Sg) fun z26 =>
  lt (m_dog z26) fun z60 =>
  (z60.1, z60.2)
set_option maxHeartbeats 4000000 in
theorem ok_m_passes (σ : Sg) (ok : XOK σ) {B m : Int} (hk : HBm B m σ) (hm : m ≤ 1500260000) (hB : B ≤ 4294967290) : (Pri XOK 0 1) (m_passes σ) := by
  have hm0 : 0 ≤ m := hk.nn
  unfold m_passes
  refine lt_pred (fun s7 e7 => ?_)
  have k7 : XOK s7 := by rw [e7]; exact xst_f0_2 ok
  have q7 : HBm B m s7 := by rw [e7]; exact HBm.same hk rfl rfl rfl
  refine lt_pred (fun s11 e11 => ?_)
  have k11 : XOK s11 := by rw [e11]; exact ok_m_windows s7 k7
  have q11 : HBm B m s11 := by rw [e11]; exact HBm.w (HBm.kp q7 (kp_m_windows s7 (ka := s7 0 20) (kb := s7 0 13) ⟨rfl, rfl, q7.2⟩ (by omega))) (by omega) (by omega)
  refine lt_pred (fun s15 e15 => ?_)
  have k15 : XOK s15 := by rw [e15]; exact ok_m_timer s11 k11
  have q15 : HBm B m s15 := by rw [e15]; exact HBm.w (HBm.kp q11 (kp_m_timer s11 (ka := s11 0 20) (kb := s11 0 13) ⟨rfl, rfl, q11.2⟩ (by omega))) (by omega) (by omega)
  refine lt_pred (fun s19 e19 => ?_)
  have k19 : XOK s19 := by rw [e19]; exact ok_m_line s15 k15 (HBm.had q15 (by omega))
  have q19 : HBm (B + 1) m s19 := by rw [e19]; exact HBm.w (hm_m_line s15 q15 (by omega) (by omega) ) (by omega) (by omega)
  refine jn_pred (fun z26 => HBm (B + 1) m z26 ∧ XOK z26) (fun z26 h26 => ?_) ?_
  · refine lt_pred (fun z60 e60 => ?_)
    have k60 : XOK z60.2 ∧ rg 0 1 z60.1 := by rw [e60]; exact ok_m_dog z26 h26.2
    have q60 : HBm (B + 1) m z60.2 := by rw [e60]; exact HBm.w (hm_m_dog z26 h26.1 (by omega) ) (by omega) (by omega)
    exact ⟨k60.1, k60.2⟩
  · refine ite_pred (fun c26 => ?_) (fun c26 => ?_)
    · refine lt_pred (fun s36 e36 => ?_)
      have k36 : XOK s36 := by rw [e36]; exact xst_f0_22 k19
      have q36 : HBm (B + 1) m s36 := by rw [e36]; exact HBm.same q19 rfl rfl rfl
      refine ite_pred (fun c43 => ?_) (fun c43 => ?_)
      · refine lt_pred (fun s58 e58 => ?_)
        have k58 : XOK s58 := by rw [e58]; exact xst_1 k36 (rg_w (rg_and_r (rg_w (lo2 := 0) rl_253 (by decide) (Int.le_refl _))) (by decide) (by decide))
        have q58 : HBm (B + 1) m s58 := by rw [e58]; exact HBm.same q36 rfl rfl rfl
        have y22_58 : rg 0 0 (s58 0 22) := by rw [e58]; exact (show rg 0 0 (s36 0 22) from (rg_eq c43 rl_0))
        exact app_i ⟨(HBm.w q58 (by omega) (by omega)), k58⟩
      · exact app_i ⟨(HBm.w q36 (by omega) (by omega)), k36⟩
    · exact app_i ⟨(HBm.w q19 (by omega) (by omega)), k19⟩

set_option maxHeartbeats 4000000 in
theorem hm_m_passes (σ : Sg) {B m : Int} (hk : HBm B m σ) (hm : m ≤ 1500260000) (hB : B ≤ 4294967290) : HBm (B + 1) m (m_passes σ).2 := by
  have hm0 : 0 ≤ m := hk.nn
  show HBmi (B + 1) m (m_passes σ)
  unfold m_passes
  refine lt_pred (fun s7 e7 => ?_)
  have q7 : HBm B m s7 := by rw [e7]; exact HBm.same hk rfl rfl rfl
  refine lt_pred (fun s11 e11 => ?_)
  have q11 : HBm B m s11 := by rw [e11]; exact HBm.w (HBm.kp q7 (kp_m_windows s7 (ka := s7 0 20) (kb := s7 0 13) ⟨rfl, rfl, q7.2⟩ (by omega))) (by omega) (by omega)
  refine lt_pred (fun s15 e15 => ?_)
  have q15 : HBm B m s15 := by rw [e15]; exact HBm.w (HBm.kp q11 (kp_m_timer s11 (ka := s11 0 20) (kb := s11 0 13) ⟨rfl, rfl, q11.2⟩ (by omega))) (by omega) (by omega)
  refine lt_pred (fun s19 e19 => ?_)
  have q19 : HBm (B + 1) m s19 := by rw [e19]; exact HBm.w (hm_m_line s15 q15 (by omega) (by omega) ) (by omega) (by omega)
  refine jn_pred (fun z26 => HBm (B + 1) m z26) (fun z26 h26 => ?_) ?_
  · refine lt_pred (fun z60 e60 => ?_)
    have q60 : HBm (B + 1) m z60.2 := by rw [e60]; exact HBm.w (hm_m_dog z26 h26 (by omega) ) (by omega) (by omega)
    exact HBm.w q60 (by omega) (by omega)
  · refine ite_pred (fun c26 => ?_) (fun c26 => ?_)
    · refine lt_pred (fun s36 e36 => ?_)
      have q36 : HBm (B + 1) m s36 := by rw [e36]; exact HBm.same q19 rfl rfl rfl
      refine ite_pred (fun c43 => ?_) (fun c43 => ?_)
      · refine lt_pred (fun s58 e58 => ?_)
        have q58 : HBm (B + 1) m s58 := by rw [e58]; exact HBm.same q36 rfl rfl rfl
        exact app_i (HBm.w q58 (by omega) (by omega))
      · exact app_i (HBm.w q36 (by omega) (by omega))
    · exact app_i (HBm.w q19 (by omega) (by omega))

set_option maxHeartbeats 4000000 in
theorem kc_m_passes (σ : Sg) : (m_passes σ).2 0 2 = σ 0 2 + nI 1 := by
  have hk : Kc (σ 0 2) 0 σ := Kc.rf
  show Kci (σ 0 2) 1 (m_passes σ)
  generalize σ 0 2 = c0 at hk ⊢
  unfold m_passes
  refine lt_pred (fun s7 e7 => ?_)
  have q7 : Kc c0 1 s7 := by rw [e7]; exact Kc.inc hk
  refine lt_pred (fun s11 e11 => ?_)
  have q11 : Kc c0 1 s11 := by rw [e11]; exact Kc.tr q7 (kc_m_windows s7)
  refine lt_pred (fun s15 e15 => ?_)
  have q15 : Kc c0 1 s15 := by rw [e15]; exact Kc.tr q11 (kc_m_timer s11)
  refine lt_pred (fun s19 e19 => ?_)
  have q19 : Kc c0 1 s19 := by rw [e19]; exact Kc.tr q15 (kc_m_line s15)
  refine jn_pred (fun z26 => Kc c0 1 z26) (fun z26 h26 => ?_) ?_
  · refine lt_pred (fun z60 e60 => ?_)
    have q60 : Kc c0 1 z60.2 := by rw [e60]; exact Kc.tr h26 (kc_m_dog z26)
    exact q60
  · refine ite_pred (fun c26 => ?_) (fun c26 => ?_)
    · refine lt_pred (fun s36 e36 => ?_)
      have q36 : Kc c0 1 s36 := by rw [e36]; exact Kc.same q19 rfl
      refine ite_pred (fun c43 => ?_) (fun c43 => ?_)
      · refine lt_pred (fun s58 e58 => ?_)
        have q58 : Kc c0 1 s58 := by rw [e58]; exact Kc.same q36 rfl
        exact app_i q58
      · exact app_i q36
    · exact app_i q19

def m_code (σ : Sg) (x1 : Int32) : Int32 :=
  lt ((x1 &&& 2047) : Int32) fun v5 =>
  lt ((
    if (¬ (v5 < 1536)) ∨ (((σ 1 87) &&& 64) = 0) then
      (σ 2 (v5).toNatClampNeg)
    else
      65535) : Int32) fun z10 =>
  z10
set_option maxHeartbeats 4000000 in
theorem ok_m_code (σ : Sg) (x1 : Int32) (ok : XOK σ) : rg 0 65535 (m_code σ x1) := by
  unfold m_code
  refine lt_pred (fun v5 e5 => ?_)
  have f5 : rg 0 2047 v5 := by rw [e5]; exact (rg_and_r (rg_w (lo2 := 0) rl_2047 (by decide) (Int.le_refl _)))
  refine jn_pred (fun z10 => rg 0 65535 z10) (fun z10 h10 => ?_) ?_
  · exact h10
  · refine ite_pred (fun c10 => ?_) (fun c10 => ?_)
    · exact app_i (xr_2 ok _)
    · exact app_i (rg_w rl_65535 (by decide) (by decide))

def m_next (σ : Sg) : Int32 × Sg :=
  lt ((m_code σ (σ 0 0)) : Int32) fun v8 =>
  lt (sst σ 0 0 (((σ 0 0) + 1) &&& 2047)) fun s20 =>
  (v8, s20)
set_option maxHeartbeats 4000000 in
theorem ok_m_next (σ : Sg) (ok : XOK σ) : (Pri XOK 0 65535) (m_next σ) := by
  unfold m_next
  refine lt_pred (fun v8 e8 => ?_)
  have f8 : rg 0 65535 v8 := by rw [e8]; exact (ok_m_code σ (σ 0 0) ok)
  refine lt_pred (fun s20 e20 => ?_)
  have k20 : XOK s20 := by rw [e20]; exact xst_0_0 ok (rg_and_r (rg_w (lo2 := 0) rl_2047 (by decide) (Int.le_refl _)))
  exact ⟨k20, f8⟩

set_option maxHeartbeats 4000000 in
theorem kp_m_next (σ : Sg) {ka kb : Int32} {m : Int} (hk : Kp ka kb m σ) (hm : m ≤ 1500280000) : Kp ka kb m (m_next σ).2 := by
  have hm0 : 0 ≤ m := hk.nn
  show Kpi ka kb m (m_next σ)
  unfold m_next
  refine lt_pred (fun v8 e8 => ?_)
  refine lt_pred (fun s20 e20 => ?_)
  have q20 : Kp ka kb m s20 := by rw [e20]; exact Kp.same hk rfl rfl rfl
  exact Kp.w q20 (by omega)

def m_pop (σ : Sg) : Int32 × Sg :=
  lt ((((m_pointer σ 93) + 1) &&& 65535) : Int32) fun v11 =>
  lt (m_setPointer σ 93 v11) fun s16 =>
  lt (m_load s16 v11) fun z21 =>
  (z21.1, z21.2)
set_option maxHeartbeats 4000000 in
theorem ok_m_pop (σ : Sg) (ok : XOK σ) : (Pri XOK 0 255) (m_pop σ) := by
  unfold m_pop
  refine lt_pred (fun v11 e11 => ?_)
  have f11 : rg 0 65535 v11 := by rw [e11]; exact (rg_and_r (rg_w (lo2 := 0) rl_65535 (by decide) (Int.le_refl _)))
  refine lt_pred (fun s16 e16 => ?_)
  have k16 : XOK s16 := by rw [e16]; exact ok_m_setPointer σ 93 v11 ok (rg_w rl_93 (by decide) (by decide))
  refine lt_pred (fun z21 e21 => ?_)
  have k21 : XOK z21.2 ∧ rg 0 255 z21.1 := by rw [e21]; exact ok_m_load s16 v11 k16 f11
  exact ⟨k21.1, k21.2⟩

set_option maxHeartbeats 4000000 in
theorem kp_m_pop (σ : Sg) {ka kb : Int32} {m : Int} (hk : Kp ka kb m σ) (hm : m ≤ 1500270000) : Kp ka kb m (m_pop σ).2 := by
  have hm0 : 0 ≤ m := hk.nn
  show Kpi ka kb m (m_pop σ)
  unfold m_pop
  refine lt_pred (fun v11 e11 => ?_)
  refine lt_pred (fun s16 e16 => ?_)
  have q16 : Kp ka kb m s16 := by rw [e16]; exact Kp.w (kp_m_setPointer σ 93 v11 hk (by omega)) (by omega)
  refine lt_pred (fun z21 e21 => ?_)
  have q21 : Kp ka kb m z21.2 := by rw [e21]; exact Kp.w (kp_m_load s16 v11 q16 (by omega)) (by omega)
  exact Kp.w q21 (by omega)

def m_popPlace (σ : Sg) : Int32 × Sg :=
  lt (m_pop σ) fun z1 =>
  lt (m_pop z1.2) fun z10 =>
  ((((z1.1 <<< (8 : Int32)) ||| z10.1) &&& 2047), z10.2)
set_option maxHeartbeats 4000000 in
theorem ok_m_popPlace (σ : Sg) (ok : XOK σ) : (Pri XOK 0 2047) (m_popPlace σ) := by
  unfold m_popPlace
  refine lt_pred (fun z1 e1 => ?_)
  have k1 : XOK z1.2 ∧ rg 0 255 z1.1 := by rw [e1]; exact ok_m_pop σ ok
  refine lt_pred (fun z10 e10 => ?_)
  have k10 : XOK z10.2 ∧ rg 0 255 z10.1 := by rw [e10]; exact ok_m_pop z1.2 k1.1
  exact ⟨k10.1, (rg_and_r (rg_w (lo2 := 0) rl_2047 (by decide) (Int.le_refl _)))⟩

set_option maxHeartbeats 4000000 in
theorem kp_m_popPlace (σ : Sg) {ka kb : Int32} {m : Int} (hk : Kp ka kb m σ) (hm : m ≤ 1500260000) : Kp ka kb m (m_popPlace σ).2 := by
  have hm0 : 0 ≤ m := hk.nn
  show Kpi ka kb m (m_popPlace σ)
  unfold m_popPlace
  refine lt_pred (fun z1 e1 => ?_)
  have q1 : Kp ka kb m z1.2 := by rw [e1]; exact Kp.w (kp_m_pop σ hk (by omega)) (by omega)
  refine lt_pred (fun z10 e10 => ?_)
  have q10 : Kp ka kb m z10.2 := by rw [e10]; exact Kp.w (kp_m_pop z1.2 q1 (by omega)) (by omega)
  exact Kp.w q10 (by omega)

def m_zero (σ : Sg) (x1 : Int32) : Sg :=
  lt ((
    if x1 < 128 then
      0
    else
      1) : Int32) fun z6 =>
  lt (m_setFlag σ 2 z6) fun s14 =>
  lt ((
    if x1 = 0 then
      1
    else
      0) : Int32) fun z20 =>
  lt (m_setFlag s14 1 z20) fun s28 =>
  lt ((
    if (m_flag s28 2) = (m_flag s28 3) then
      0
    else
      1) : Int32) fun z43 =>
  lt (m_setFlag s28 4 z43) fun s51 =>
  s51
set_option maxHeartbeats 4000000 in
theorem ok_m_zero (σ : Sg) (x1 : Int32) (ok : XOK σ) : XOK (m_zero σ x1) := by
  unfold m_zero
  refine jn_pred (fun z6 => rg 0 1 z6) (fun z6 h6 => ?_) ?_
  · refine lt_pred (fun s14 e14 => ?_)
    have k14 : XOK s14 := by rw [e14]; exact ok_m_setFlag σ 2 z6 ok (rg_w rl_2 (by decide) (by decide)) h6
    refine jn_pred (fun z20 => rg 0 1 z20) (fun z20 h20 => ?_) ?_
    · refine lt_pred (fun s28 e28 => ?_)
      have k28 : XOK s28 := by rw [e28]; exact ok_m_setFlag s14 1 z20 k14 (rg_w rl_1 (by decide) (by decide)) h20
      refine jn_pred (fun z43 => rg 0 1 z43) (fun z43 h43 => ?_) ?_
      · refine lt_pred (fun s51 e51 => ?_)
        have k51 : XOK s51 := by rw [e51]; exact ok_m_setFlag s28 4 z43 k28 (rg_w rl_4 (by decide) (by decide)) h43
        exact k51
      · refine ite_pred (fun c43 => ?_) (fun c43 => ?_)
        · exact app_i (rg_w rl_0 (by decide) (by decide))
        · exact app_i (rg_w rl_1 (by decide) (by decide))
    · refine ite_pred (fun c20 => ?_) (fun c20 => ?_)
      · exact app_i (rg_w rl_1 (by decide) (by decide))
      · exact app_i (rg_w rl_0 (by decide) (by decide))
  · refine ite_pred (fun c6 => ?_) (fun c6 => ?_)
    · exact app_i (rg_w rl_0 (by decide) (by decide))
    · exact app_i (rg_w rl_1 (by decide) (by decide))

set_option maxHeartbeats 4000000 in
theorem kp_m_zero (σ : Sg) (x1 : Int32) {ka kb : Int32} {m : Int} (hk : Kp ka kb m σ) (hm : m ≤ 1500280000) : Kp ka kb m (m_zero σ x1) := by
  have hm0 : 0 ≤ m := hk.nn
  show Kp ka kb m (m_zero σ x1)
  unfold m_zero
  refine jn_pred (fun z6 => True) (fun z6 h6 => ?_) ?_
  · refine lt_pred (fun s14 e14 => ?_)
    have q14 : Kp ka kb m s14 := by rw [e14]; exact Kp.w (kp_m_setFlag σ 2 z6 hk (by omega)) (by omega)
    refine jn_pred (fun z20 => True) (fun z20 h20 => ?_) ?_
    · refine lt_pred (fun s28 e28 => ?_)
      have q28 : Kp ka kb m s28 := by rw [e28]; exact Kp.w (kp_m_setFlag s14 1 z20 q14 (by omega)) (by omega)
      refine jn_pred (fun z43 => True) (fun z43 h43 => ?_) ?_
      · refine lt_pred (fun s51 e51 => ?_)
        have q51 : Kp ka kb m s51 := by rw [e51]; exact Kp.w (kp_m_setFlag s28 4 z43 q28 (by omega)) (by omega)
        exact Kp.w q51 (by omega)
      · refine ite_pred (fun c43 => ?_) (fun c43 => ?_)
        · exact app_i trivial
        · exact app_i trivial
    · refine ite_pred (fun c20 => ?_) (fun c20 => ?_)
      · exact app_i trivial
      · exact app_i trivial
  · refine ite_pred (fun c6 => ?_) (fun c6 => ?_)
    · exact app_i trivial
    · exact app_i trivial

def m_signed (σ : Sg) (x0 : Int32) : Int32 :=
  lt ((
    if x0 < 128 then
      x0
    else
      (x0 - 256)) : Int32) fun z4 =>
  z4
set_option maxHeartbeats 4000000 in
theorem ok_m_signed (σ : Sg) (x0 : Int32) : rg (-2147483648) 2147483391 (m_signed σ x0) := by
  unfold m_signed
  refine jn_pred (fun z4 => rg (-2147483648) 2147483391 z4) (fun z4 h4 => ?_) ?_
  · exact h4
  · refine ite_pred (fun c4 => ?_) (fun c4 => ?_)
    · exact app_i (rg_w (rg_lt_hi (rg_full x0) c4 rl_128) (by decide) (by decide))
    · exact app_i (rg_w (rg_sub (rg_nlt_lo (rg_full x0) c4 rl_128) rl_256 (by decide) (by decide)) (by decide) (by decide))

def m_add (σ : Sg) (x1 : Int32) (x2 : Int32) (x3 : Int32) : Int32 × Sg :=
  lt ((((x1 + x2) + x3) &&& 255) : Int32) fun v9 =>
  lt ((((m_signed σ x1) + (m_signed σ x2)) + x3) : Int32) fun v22 =>
  lt ((
    if 15 < (((x1 &&& 15) + (x2 &&& 15)) + x3) then
      1
    else
      0) : Int32) fun z39 =>
  lt (m_setFlag σ 5 z39) fun s47 =>
  lt ((
    if 255 < ((x1 + x2) + x3) then
      1
    else
      0) : Int32) fun z60 =>
  lt (m_setFlag s47 0 z60) fun s68 =>
  lt ((
    if (v22 < (-128)) ∨ (127 < v22) then
      1
    else
      0) : Int32) fun z77 =>
  lt (m_setFlag s68 3 z77) fun s92 =>
  lt (m_zero s92 v9) fun s98 =>
  (v9, s98)
set_option maxHeartbeats 4000000 in
theorem ok_m_add (σ : Sg) (x1 : Int32) (x2 : Int32) (x3 : Int32) (ok : XOK σ) : (Pri XOK 0 255) (m_add σ x1 x2 x3) := by
  unfold m_add
  refine lt_pred (fun v9 e9 => ?_)
  have f9 : rg 0 255 v9 := by rw [e9]; exact (rg_and_r (rg_w (lo2 := 0) rl_255 (by decide) (Int.le_refl _)))
  refine lt_pred (fun v22 e22 => ?_)
  refine jn_pred (fun z39 => rg 0 1 z39) (fun z39 h39 => ?_) ?_
  · refine lt_pred (fun s47 e47 => ?_)
    have k47 : XOK s47 := by rw [e47]; exact ok_m_setFlag σ 5 z39 ok (rg_w rl_5 (by decide) (by decide)) h39
    refine jn_pred (fun z60 => rg 0 1 z60) (fun z60 h60 => ?_) ?_
    · refine lt_pred (fun s68 e68 => ?_)
      have k68 : XOK s68 := by rw [e68]; exact ok_m_setFlag s47 0 z60 k47 (rg_w rl_0 (by decide) (by decide)) h60
      refine jn_pred (fun z77 => rg 0 1 z77) (fun z77 h77 => ?_) ?_
      · refine lt_pred (fun s92 e92 => ?_)
        have k92 : XOK s92 := by rw [e92]; exact ok_m_setFlag s68 3 z77 k68 (rg_w rl_3 (by decide) (by decide)) h77
        refine lt_pred (fun s98 e98 => ?_)
        have k98 : XOK s98 := by rw [e98]; exact ok_m_zero s92 v9 k92
        exact ⟨k98, f9⟩
      · refine ite_pred (fun c77 => ?_) (fun c77 => ?_)
        · exact app_i (rg_w rl_1 (by decide) (by decide))
        · exact app_i (rg_w rl_0 (by decide) (by decide))
    · refine ite_pred (fun c60 => ?_) (fun c60 => ?_)
      · exact app_i (rg_w rl_1 (by decide) (by decide))
      · exact app_i (rg_w rl_0 (by decide) (by decide))
  · refine ite_pred (fun c39 => ?_) (fun c39 => ?_)
    · exact app_i (rg_w rl_1 (by decide) (by decide))
    · exact app_i (rg_w rl_0 (by decide) (by decide))

set_option maxHeartbeats 4000000 in
theorem kp_m_add (σ : Sg) (x1 : Int32) (x2 : Int32) (x3 : Int32) {ka kb : Int32} {m : Int} (hk : Kp ka kb m σ) (hm : m ≤ 1500270000) : Kp ka kb m (m_add σ x1 x2 x3).2 := by
  have hm0 : 0 ≤ m := hk.nn
  show Kpi ka kb m (m_add σ x1 x2 x3)
  unfold m_add
  refine lt_pred (fun v9 e9 => ?_)
  refine lt_pred (fun v22 e22 => ?_)
  refine jn_pred (fun z39 => True) (fun z39 h39 => ?_) ?_
  · refine lt_pred (fun s47 e47 => ?_)
    have q47 : Kp ka kb m s47 := by rw [e47]; exact Kp.w (kp_m_setFlag σ 5 z39 hk (by omega)) (by omega)
    refine jn_pred (fun z60 => True) (fun z60 h60 => ?_) ?_
    · refine lt_pred (fun s68 e68 => ?_)
      have q68 : Kp ka kb m s68 := by rw [e68]; exact Kp.w (kp_m_setFlag s47 0 z60 q47 (by omega)) (by omega)
      refine jn_pred (fun z77 => True) (fun z77 h77 => ?_) ?_
      · refine lt_pred (fun s92 e92 => ?_)
        have q92 : Kp ka kb m s92 := by rw [e92]; exact Kp.w (kp_m_setFlag s68 3 z77 q68 (by omega)) (by omega)
        refine lt_pred (fun s98 e98 => ?_)
        have q98 : Kp ka kb m s98 := by rw [e98]; exact Kp.w (kp_m_zero s92 v9 q92 (by omega)) (by omega)
        exact Kp.w q98 (by omega)
      · refine ite_pred (fun c77 => ?_) (fun c77 => ?_)
        · exact app_i trivial
        · exact app_i trivial
    · refine ite_pred (fun c60 => ?_) (fun c60 => ?_)
      · exact app_i trivial
      · exact app_i trivial
  · refine ite_pred (fun c39 => ?_) (fun c39 => ?_)
    · exact app_i trivial
    · exact app_i trivial

def m_subtract (σ : Sg) (x1 : Int32) (x2 : Int32) (x3 : Int32) (x4 : Int32) : Int32 × Sg :=
  lt ((m_flag σ 1) : Int32) fun v5 =>
  lt ((((x1 - x2) - x3) &&& 255) : Int32) fun v16 =>
  lt ((((m_signed σ x1) - (m_signed σ x2)) - x3) : Int32) fun v29 =>
  lt ((
    if (((x1 &&& 15) - (x2 &&& 15)) - x3) < 0 then
      1
    else
      0) : Int32) fun z44 =>
  lt (m_setFlag σ 5 z44) fun s52 =>
  lt ((
    if ((x1 - x2) - x3) < 0 then
      1
    else
      0) : Int32) fun z62 =>
  lt (m_setFlag s52 0 z62) fun s70 =>
  lt ((
    if (v29 < (-128)) ∨ (127 < v29) then
      1
    else
      0) : Int32) fun z79 =>
  lt (m_setFlag s70 3 z79) fun s94 =>
  lt (m_zero s94 v16) fun s100 =>
  lt ((
    if x4 = 0 then
      s100
    else
      lt ((
        if (¬ (v16 = 0)) ∨ (v5 = 0) then
          0
        else
          1) : Int32) fun z112 =>
      lt (m_setFlag s100 1 z112) fun s125 =>
      s125) : Sg) fun z105 =>
  (v16, z105)
set_option maxHeartbeats 4000000 in
theorem ok_m_subtract (σ : Sg) (x1 : Int32) (x2 : Int32) (x3 : Int32) (x4 : Int32) (ok : XOK σ) (hx4 : rg 0 1 x4) : (Pri XOK 0 255) (m_subtract σ x1 x2 x3 x4) := by
  unfold m_subtract
  refine lt_pred (fun v5 e5 => ?_)
  have f5 : rg 0 1 v5 := by rw [e5]; exact (ok_m_flag σ 1 ok)
  refine lt_pred (fun v16 e16 => ?_)
  have f16 : rg 0 255 v16 := by rw [e16]; exact (rg_and_r (rg_w (lo2 := 0) rl_255 (by decide) (Int.le_refl _)))
  refine lt_pred (fun v29 e29 => ?_)
  refine jn_pred (fun z44 => rg 0 1 z44) (fun z44 h44 => ?_) ?_
  · refine lt_pred (fun s52 e52 => ?_)
    have k52 : XOK s52 := by rw [e52]; exact ok_m_setFlag σ 5 z44 ok (rg_w rl_5 (by decide) (by decide)) h44
    refine jn_pred (fun z62 => rg 0 1 z62) (fun z62 h62 => ?_) ?_
    · refine lt_pred (fun s70 e70 => ?_)
      have k70 : XOK s70 := by rw [e70]; exact ok_m_setFlag s52 0 z62 k52 (rg_w rl_0 (by decide) (by decide)) h62
      refine jn_pred (fun z79 => rg 0 1 z79) (fun z79 h79 => ?_) ?_
      · refine lt_pred (fun s94 e94 => ?_)
        have k94 : XOK s94 := by rw [e94]; exact ok_m_setFlag s70 3 z79 k70 (rg_w rl_3 (by decide) (by decide)) h79
        refine lt_pred (fun s100 e100 => ?_)
        have k100 : XOK s100 := by rw [e100]; exact ok_m_zero s94 v16 k94
        refine jn_pred (fun z105 => XOK z105) (fun z105 h105 => ?_) ?_
        · exact ⟨h105, f16⟩
        · refine ite_pred (fun c105 => ?_) (fun c105 => ?_)
          · exact app_i k100
          · refine jn_pred (fun z112 => rg 0 1 z112) (fun z112 h112 => ?_) ?_
            · refine lt_pred (fun s125 e125 => ?_)
              have k125 : XOK s125 := by rw [e125]; exact ok_m_setFlag s100 1 z112 k100 (rg_w rl_1 (by decide) (by decide)) h112
              exact app_i k125
            · refine ite_pred (fun c112 => ?_) (fun c112 => ?_)
              · exact app_i (rg_w rl_0 (by decide) (by decide))
              · exact app_i (rg_w rl_1 (by decide) (by decide))
      · refine ite_pred (fun c79 => ?_) (fun c79 => ?_)
        · exact app_i (rg_w rl_1 (by decide) (by decide))
        · exact app_i (rg_w rl_0 (by decide) (by decide))
    · refine ite_pred (fun c62 => ?_) (fun c62 => ?_)
      · exact app_i (rg_w rl_1 (by decide) (by decide))
      · exact app_i (rg_w rl_0 (by decide) (by decide))
  · refine ite_pred (fun c44 => ?_) (fun c44 => ?_)
    · exact app_i (rg_w rl_1 (by decide) (by decide))
    · exact app_i (rg_w rl_0 (by decide) (by decide))

set_option maxHeartbeats 4000000 in
theorem kp_m_subtract (σ : Sg) (x1 : Int32) (x2 : Int32) (x3 : Int32) (x4 : Int32) {ka kb : Int32} {m : Int} (hk : Kp ka kb m σ) (hm : m ≤ 1500270000) : Kp ka kb m (m_subtract σ x1 x2 x3 x4).2 := by
  have hm0 : 0 ≤ m := hk.nn
  show Kpi ka kb m (m_subtract σ x1 x2 x3 x4)
  unfold m_subtract
  refine lt_pred (fun v5 e5 => ?_)
  refine lt_pred (fun v16 e16 => ?_)
  refine lt_pred (fun v29 e29 => ?_)
  refine jn_pred (fun z44 => True) (fun z44 h44 => ?_) ?_
  · refine lt_pred (fun s52 e52 => ?_)
    have q52 : Kp ka kb m s52 := by rw [e52]; exact Kp.w (kp_m_setFlag σ 5 z44 hk (by omega)) (by omega)
    refine jn_pred (fun z62 => True) (fun z62 h62 => ?_) ?_
    · refine lt_pred (fun s70 e70 => ?_)
      have q70 : Kp ka kb m s70 := by rw [e70]; exact Kp.w (kp_m_setFlag s52 0 z62 q52 (by omega)) (by omega)
      refine jn_pred (fun z79 => True) (fun z79 h79 => ?_) ?_
      · refine lt_pred (fun s94 e94 => ?_)
        have q94 : Kp ka kb m s94 := by rw [e94]; exact Kp.w (kp_m_setFlag s70 3 z79 q70 (by omega)) (by omega)
        refine lt_pred (fun s100 e100 => ?_)
        have q100 : Kp ka kb m s100 := by rw [e100]; exact Kp.w (kp_m_zero s94 v16 q94 (by omega)) (by omega)
        refine jn_pred (fun z105 => Kp ka kb m z105) (fun z105 h105 => ?_) ?_
        · exact Kp.w h105 (by omega)
        · refine ite_pred (fun c105 => ?_) (fun c105 => ?_)
          · exact app_i (Kp.w q100 (by omega))
          · refine jn_pred (fun z112 => True) (fun z112 h112 => ?_) ?_
            · refine lt_pred (fun s125 e125 => ?_)
              have q125 : Kp ka kb m s125 := by rw [e125]; exact Kp.w (kp_m_setFlag s100 1 z112 q100 (by omega)) (by omega)
              exact app_i (Kp.w q125 (by omega))
            · refine ite_pred (fun c112 => ?_) (fun c112 => ?_)
              · exact app_i trivial
              · exact app_i trivial
      · refine ite_pred (fun c79 => ?_) (fun c79 => ?_)
        · exact app_i trivial
        · exact app_i trivial
    · refine ite_pred (fun c62 => ?_) (fun c62 => ?_)
      · exact app_i trivial
      · exact app_i trivial
  · refine ite_pred (fun c44 => ?_) (fun c44 => ?_)
    · exact app_i trivial
    · exact app_i trivial

def m_logic (σ : Sg) (x1 : Int32) : Int32 × Sg :=
  lt (m_setFlag σ 3 0) fun s3 =>
  lt (m_zero s3 x1) fun s8 =>
  (x1, s8)
set_option maxHeartbeats 4000000 in
theorem ok_m_logic (σ : Sg) (x1 : Int32) (ok : XOK σ) (hx1 : rg 0 255 x1) : (Pri XOK 0 255) (m_logic σ x1) := by
  unfold m_logic
  refine lt_pred (fun s3 e3 => ?_)
  have k3 : XOK s3 := by rw [e3]; exact ok_m_setFlag σ 3 0 ok (rg_w rl_3 (by decide) (by decide)) (rg_w rl_0 (by decide) (by decide))
  refine lt_pred (fun s8 e8 => ?_)
  have k8 : XOK s8 := by rw [e8]; exact ok_m_zero s3 x1 k3
  exact ⟨k8, hx1⟩

set_option maxHeartbeats 4000000 in
theorem kp_m_logic (σ : Sg) (x1 : Int32) {ka kb : Int32} {m : Int} (hk : Kp ka kb m σ) (hm : m ≤ 1500270000) : Kp ka kb m (m_logic σ x1).2 := by
  have hm0 : 0 ≤ m := hk.nn
  show Kpi ka kb m (m_logic σ x1)
  unfold m_logic
  refine lt_pred (fun s3 e3 => ?_)
  have q3 : Kp ka kb m s3 := by rw [e3]; exact Kp.w (kp_m_setFlag σ 3 0 hk (by omega)) (by omega)
  refine lt_pred (fun s8 e8 => ?_)
  have q8 : Kp ka kb m s8 := by rw [e8]; exact Kp.w (kp_m_zero s3 x1 q3 (by omega)) (by omega)
  exact Kp.w q8 (by omega)

def m_carry (σ : Sg) : Int32 :=
  ((σ 1 95) &&& 1)
set_option maxHeartbeats 4000000 in
theorem ok_m_carry (σ : Sg) (ok : XOK σ) : rg 0 1 (m_carry σ) := by
  unfold m_carry
  exact (rg_and_r (rg_w (lo2 := 0) rl_1 (by decide) (Int.le_refl _)))

def m_product (σ : Sg) (x1 : Int32) (x2 : Int32) : Sg :=
  lt ((
    if (x1 &&& 32768) = 0 then
      0
    else
      1) : Int32) fun z7 =>
  lt (m_setFlag σ 0 z7) fun s15 =>
  lt ((
    if x2 = 0 then
      x1
    else
      (2 * x1)) : Int32) fun z19 =>
  lt ((z19 &&& 65535) : Int32) fun v32 =>
  lt (m_setPointer s15 0 v32) fun s36 =>
  lt ((
    if v32 = 0 then
      1
    else
      0) : Int32) fun z42 =>
  lt (m_setFlag s36 1 z42) fun s50 =>
  s50
set_option maxHeartbeats 4000000 in
theorem ok_m_product (σ : Sg) (x1 : Int32) (x2 : Int32) (ok : XOK σ) (hx2 : rg 0 1 x2) : XOK (m_product σ x1 x2) := by
  unfold m_product
  refine jn_pred (fun z7 => rg 0 1 z7) (fun z7 h7 => ?_) ?_
  · refine lt_pred (fun s15 e15 => ?_)
    have k15 : XOK s15 := by rw [e15]; exact ok_m_setFlag σ 0 z7 ok (rg_w rl_0 (by decide) (by decide)) h7
    refine jn_pred (fun z19 => True) (fun z19 h19 => ?_) ?_
    · refine lt_pred (fun v32 e32 => ?_)
      have f32 : rg 0 65535 v32 := by rw [e32]; exact (rg_and_r (rg_w (lo2 := 0) rl_65535 (by decide) (Int.le_refl _)))
      refine lt_pred (fun s36 e36 => ?_)
      have k36 : XOK s36 := by rw [e36]; exact ok_m_setPointer s15 0 v32 k15 (rg_w rl_0 (by decide) (by decide))
      refine jn_pred (fun z42 => rg 0 1 z42) (fun z42 h42 => ?_) ?_
      · refine lt_pred (fun s50 e50 => ?_)
        have k50 : XOK s50 := by rw [e50]; exact ok_m_setFlag s36 1 z42 k36 (rg_w rl_1 (by decide) (by decide)) h42
        exact k50
      · refine ite_pred (fun c42 => ?_) (fun c42 => ?_)
        · exact app_i (rg_w rl_1 (by decide) (by decide))
        · exact app_i (rg_w rl_0 (by decide) (by decide))
    · refine ite_pred (fun c19 => ?_) (fun c19 => ?_)
      · exact app_i trivial
      · exact app_i trivial
  · refine ite_pred (fun c7 => ?_) (fun c7 => ?_)
    · exact app_i (rg_w rl_0 (by decide) (by decide))
    · exact app_i (rg_w rl_1 (by decide) (by decide))

set_option maxHeartbeats 4000000 in
theorem kp_m_product (σ : Sg) (x1 : Int32) (x2 : Int32) {ka kb : Int32} {m : Int} (hk : Kp ka kb m σ) (hm : m ≤ 1500280000) : Kp ka kb m (m_product σ x1 x2) := by
  have hm0 : 0 ≤ m := hk.nn
  show Kp ka kb m (m_product σ x1 x2)
  unfold m_product
  refine jn_pred (fun z7 => True) (fun z7 h7 => ?_) ?_
  · refine lt_pred (fun s15 e15 => ?_)
    have q15 : Kp ka kb m s15 := by rw [e15]; exact Kp.w (kp_m_setFlag σ 0 z7 hk (by omega)) (by omega)
    refine jn_pred (fun z19 => True) (fun z19 h19 => ?_) ?_
    · refine lt_pred (fun v32 e32 => ?_)
      refine lt_pred (fun s36 e36 => ?_)
      have q36 : Kp ka kb m s36 := by rw [e36]; exact Kp.w (kp_m_setPointer s15 0 v32 q15 (by omega)) (by omega)
      refine jn_pred (fun z42 => True) (fun z42 h42 => ?_) ?_
      · refine lt_pred (fun s50 e50 => ?_)
        have q50 : Kp ka kb m s50 := by rw [e50]; exact Kp.w (kp_m_setFlag s36 1 z42 q36 (by omega)) (by omega)
        exact Kp.w q50 (by omega)
      · refine ite_pred (fun c42 => ?_) (fun c42 => ?_)
        · exact app_i trivial
        · exact app_i trivial
    · refine ite_pred (fun c19 => ?_) (fun c19 => ?_)
      · exact app_i trivial
      · exact app_i trivial
  · refine ite_pred (fun c7 => ?_) (fun c7 => ?_)
    · exact app_i trivial
    · exact app_i trivial

def m_skips (σ : Sg) : Int32 × Sg :=
  lt (m_next σ) fun z1 =>
  if ((z1.1 &&& 64527) = 36864) ∨ ((z1.1 &&& 65036) = 37900) then
    lt (m_next z1.2) fun z30 =>
    (2, z30.2)
  else
    (1, z1.2)
set_option maxHeartbeats 4000000 in
theorem ok_m_skips (σ : Sg) (ok : XOK σ) : (Pri XOK 1 2) (m_skips σ) := by
  unfold m_skips
  refine lt_pred (fun z1 e1 => ?_)
  have k1 : XOK z1.2 ∧ rg 0 65535 z1.1 := by rw [e1]; exact ok_m_next σ ok
  refine ite_pred (fun c13 => ?_) (fun c13 => ?_)
  · refine lt_pred (fun z30 e30 => ?_)
    have k30 : XOK z30.2 ∧ rg 0 65535 z30.1 := by rw [e30]; exact ok_m_next z1.2 k1.1
    exact ⟨k30.1, (rg_w rl_2 (by decide) (by decide))⟩
  · exact ⟨k1.1, (rg_w rl_1 (by decide) (by decide))⟩

set_option maxHeartbeats 4000000 in
theorem kp_m_skips (σ : Sg) {ka kb : Int32} {m : Int} (hk : Kp ka kb m σ) (hm : m ≤ 1500270000) : Kp ka kb m (m_skips σ).2 := by
  have hm0 : 0 ≤ m := hk.nn
  show Kpi ka kb m (m_skips σ)
  unfold m_skips
  refine lt_pred (fun z1 e1 => ?_)
  have q1 : Kp ka kb m z1.2 := by rw [e1]; exact Kp.w (kp_m_next σ hk (by omega)) (by omega)
  refine ite_pred (fun c13 => ?_) (fun c13 => ?_)
  · refine lt_pred (fun z30 e30 => ?_)
    have q30 : Kp ka kb m z30.2 := by rw [e30]; exact Kp.w (kp_m_next z1.2 q1 (by omega)) (by omega)
    exact Kp.w q30 (by omega)
  · exact Kp.w q1 (by omega)

def m_moves (σ : Sg) (x1 : Int32) : Int32 × Sg :=
  lt (((x1 >>> (4 : Int32)) &&& 15) : Int32) fun v6 =>
  lt ((x1 &&& 15) : Int32) fun v11 =>
  lt ((x1 >>> (8 : Int32)) : Int32) fun v16 =>
  if v16 = 1 then
    lt ((σ 1 ((2 * v11)).toNatClampNeg) : Int32) fun v52 =>
    lt ((σ 1 (((2 * v11) + 1)).toNatClampNeg) : Int32) fun v64 =>
    lt (sst σ 1 ((2 * v6)).toNatClampNeg v52) fun s75 =>
    lt (sst s75 1 (((2 * v6) + 1)).toNatClampNeg v64) fun s87 =>
    (1, s87)
  else
    if v16 = 2 then
      lt (m_product σ ((m_signed σ (σ 1 ((16 + v6)).toNatClampNeg)) * (m_signed σ (σ 1 ((16 + v11)).toNatClampNeg))) 0) fun s117 =>
      (2, s117)
    else
      if v16 = 3 then
        lt ((σ 1 ((16 + (v6 &&& 7))).toNatClampNeg) : Int32) fun v134 =>
        lt ((σ 1 ((16 + (v11 &&& 7))).toNatClampNeg) : Int32) fun v148 =>
        lt ((((x1 >>> (6 : Int32)) &&& 2) ||| ((x1 >>> (3 : Int32)) &&& 1)) : Int32) fun v162 =>
        lt ((
          if v162 = 1 then
            v134
          else
            (m_signed σ v134)) : Int32) fun z168 =>
        lt ((
          if v162 = 2 then
            (m_signed σ v148)
          else
            v148) : Int32) fun z184 =>
        lt ((
          if v162 = 0 then
            0
          else
            1) : Int32) fun z200 =>
        lt (m_product σ (z168 * z184) z200) fun s208 =>
        (2, s208)
      else
        (1, σ)
set_option maxHeartbeats 4000000 in
theorem ok_m_moves (σ : Sg) (x1 : Int32) (ok : XOK σ) : (Pri XOK 1 2) (m_moves σ x1) := by
  unfold m_moves
  refine lt_pred (fun v6 e6 => ?_)
  have f6 : rg 0 15 v6 := by rw [e6]; exact (rg_and_r (rg_w (lo2 := 0) rl_15 (by decide) (Int.le_refl _)))
  refine lt_pred (fun v11 e11 => ?_)
  have f11 : rg 0 15 v11 := by rw [e11]; exact (rg_and_r (rg_w (lo2 := 0) rl_15 (by decide) (Int.le_refl _)))
  refine lt_pred (fun v16 e16 => ?_)
  refine ite_pred (fun c16_1 => ?_) (fun c16_1 => ?_)
  · refine lt_pred (fun v52 e52 => ?_)
    have f52 : rg 0 255 v52 := by rw [e52]; exact (xr_1 ok _)
    refine lt_pred (fun v64 e64 => ?_)
    have f64 : rg 0 255 v64 := by rw [e64]; exact (xr_1 ok _)
    refine lt_pred (fun s75 e75 => ?_)
    have k75 : XOK s75 := by rw [e75]; exact xst_1 ok f52
    refine lt_pred (fun s87 e87 => ?_)
    have k87 : XOK s87 := by rw [e87]; exact xst_1 k75 f64
    exact ⟨k87, (rg_w rl_1 (by decide) (by decide))⟩
  · refine ite_pred (fun c16_2 => ?_) (fun c16_2 => ?_)
    · refine lt_pred (fun s117 e117 => ?_)
      have k117 : XOK s117 := by rw [e117]; exact ok_m_product σ ((m_signed σ (σ 1 ((16 + v6)).toNatClampNeg)) * (m_signed σ (σ 1 ((16 + v11)).toNatClampNeg))) 0 ok (rg_w rl_0 (by decide) (by decide))
      exact ⟨k117, (rg_w rl_2 (by decide) (by decide))⟩
    · refine ite_pred (fun c16_3 => ?_) (fun c16_3 => ?_)
      · refine lt_pred (fun v134 e134 => ?_)
        have f134 : rg 0 255 v134 := by rw [e134]; exact (xr_1 ok _)
        refine lt_pred (fun v148 e148 => ?_)
        have f148 : rg 0 255 v148 := by rw [e148]; exact (xr_1 ok _)
        refine lt_pred (fun v162 e162 => ?_)
        have f162 : rg 0 3 v162 := by rw [e162]; exact (rg_or 2 (rg_and_r (rg_w (lo2 := 0) rl_2 (by decide) (Int.le_refl _))) (rg_and_r (rg_w (lo2 := 0) rl_1 (by decide) (Int.le_refl _))) (by decide) (by decide) (by decide))
        refine jn_pred (fun z168 => rg (-2147483648) 2147483391 z168) (fun z168 h168 => ?_) ?_
        · refine jn_pred (fun z184 => rg (-2147483648) 2147483391 z184) (fun z184 h184 => ?_) ?_
          · refine jn_pred (fun z200 => rg 0 1 z200) (fun z200 h200 => ?_) ?_
            · refine lt_pred (fun s208 e208 => ?_)
              have k208 : XOK s208 := by rw [e208]; exact ok_m_product σ (z168 * z184) z200 ok h200
              exact ⟨k208, (rg_w rl_2 (by decide) (by decide))⟩
            · refine ite_pred (fun c200 => ?_) (fun c200 => ?_)
              · exact app_i (rg_w rl_0 (by decide) (by decide))
              · exact app_i (rg_w rl_1 (by decide) (by decide))
          · refine ite_pred (fun c184 => ?_) (fun c184 => ?_)
            · exact app_i (ok_m_signed σ v148)
            · exact app_i (rg_w f148 (by decide) (by decide))
        · refine ite_pred (fun c168 => ?_) (fun c168 => ?_)
          · exact app_i (rg_w f134 (by decide) (by decide))
          · exact app_i (ok_m_signed σ v134)
      · exact ⟨ok, (rg_w rl_1 (by decide) (by decide))⟩

set_option maxHeartbeats 4000000 in
theorem kp_m_moves (σ : Sg) (x1 : Int32) {ka kb : Int32} {m : Int} (hk : Kp ka kb m σ) (hm : m ≤ 1500270000) : Kp ka kb m (m_moves σ x1).2 := by
  have hm0 : 0 ≤ m := hk.nn
  show Kpi ka kb m (m_moves σ x1)
  unfold m_moves
  refine lt_pred (fun v6 e6 => ?_)
  refine lt_pred (fun v11 e11 => ?_)
  refine lt_pred (fun v16 e16 => ?_)
  refine ite_pred (fun c16_1 => ?_) (fun c16_1 => ?_)
  · refine lt_pred (fun v52 e52 => ?_)
    refine lt_pred (fun v64 e64 => ?_)
    refine lt_pred (fun s75 e75 => ?_)
    have q75 : Kp ka kb m s75 := by rw [e75]; exact Kp.same hk rfl rfl rfl
    refine lt_pred (fun s87 e87 => ?_)
    have q87 : Kp ka kb m s87 := by rw [e87]; exact Kp.same q75 rfl rfl rfl
    exact Kp.w q87 (by omega)
  · refine ite_pred (fun c16_2 => ?_) (fun c16_2 => ?_)
    · refine lt_pred (fun s117 e117 => ?_)
      have q117 : Kp ka kb m s117 := by rw [e117]; exact Kp.w (kp_m_product σ ((m_signed σ (σ 1 ((16 + v6)).toNatClampNeg)) * (m_signed σ (σ 1 ((16 + v11)).toNatClampNeg))) 0 hk (by omega)) (by omega)
      exact Kp.w q117 (by omega)
    · refine ite_pred (fun c16_3 => ?_) (fun c16_3 => ?_)
      · refine lt_pred (fun v134 e134 => ?_)
        refine lt_pred (fun v148 e148 => ?_)
        refine lt_pred (fun v162 e162 => ?_)
        refine jn_pred (fun z168 => True) (fun z168 h168 => ?_) ?_
        · refine jn_pred (fun z184 => True) (fun z184 h184 => ?_) ?_
          · refine jn_pred (fun z200 => True) (fun z200 h200 => ?_) ?_
            · refine lt_pred (fun s208 e208 => ?_)
              have q208 : Kp ka kb m s208 := by rw [e208]; exact Kp.w (kp_m_product σ (z168 * z184) z200 hk (by omega)) (by omega)
              exact Kp.w q208 (by omega)
            · refine ite_pred (fun c200 => ?_) (fun c200 => ?_)
              · exact app_i trivial
              · exact app_i trivial
          · refine ite_pred (fun c184 => ?_) (fun c184 => ?_)
            · exact app_i trivial
            · exact app_i trivial
        · refine ite_pred (fun c168 => ?_) (fun c168 => ?_)
          · exact app_i trivial
          · exact app_i trivial
      · exact Kp.w hk (by omega)

def m_ofTwo (σ : Sg) (x1 : Int32) : Int32 × Sg :=
  lt (((x1 >>> (4 : Int32)) &&& 31) : Int32) fun v6 =>
  lt (((x1 &&& 15) ||| ((x1 >>> (5 : Int32)) &&& 16)) : Int32) fun v18 =>
  lt ((σ 1 (v6).toNatClampNeg) : Int32) fun v25 =>
  lt ((σ 1 (v18).toNatClampNeg) : Int32) fun v33 =>
  lt ((x1 >>> (10 : Int32)) : Int32) fun v39 =>
  if v39 = 0 then
    lt (m_moves σ x1) fun z98 =>
    (z98.1, z98.2)
  else
    if v39 = 1 then
      lt (m_subtract σ v25 v33 (m_carry σ) 1) fun z112 =>
      (1, z112.2)
    else
      if v39 = 2 then
        lt (m_subtract σ v25 v33 (m_carry σ) 1) fun z133 =>
        lt (sst z133.2 1 (v6).toNatClampNeg z133.1) fun s136 =>
        (1, s136)
      else
        if v39 = 3 then
          lt (m_add σ v25 v33 0) fun z150 =>
          lt (sst z150.2 1 (v6).toNatClampNeg z150.1) fun s153 =>
          (1, s153)
        else
          if v39 = 4 then
            lt ((
              if v25 = v33 then
                lt (m_skips σ) fun z165 =>
                ((1 + z165.1), z165.2)
              else
                (1, σ)) : Int32 × Sg) fun z160 =>
            (z160.1, z160.2)
          else
            if v39 = 5 then
              lt (m_subtract σ v25 v33 0 0) fun z181 =>
              (1, z181.2)
            else
              if v39 = 6 then
                lt (m_subtract σ v25 v33 0 0) fun z199 =>
                lt (sst z199.2 1 (v6).toNatClampNeg z199.1) fun s202 =>
                (1, s202)
              else
                if v39 = 7 then
                  lt (m_add σ v25 v33 (m_carry σ)) fun z219 =>
                  lt (sst z219.2 1 (v6).toNatClampNeg z219.1) fun s222 =>
                  (1, s222)
                else
                  if v39 = 8 then
                    lt (m_logic σ (v25 &&& v33)) fun z236 =>
                    lt (sst z236.2 1 (v6).toNatClampNeg z236.1) fun s239 =>
                    (1, s239)
                  else
                    if v39 = 9 then
                      lt (m_logic σ (v25 ^^^ v33)) fun z253 =>
                      lt (sst z253.2 1 (v6).toNatClampNeg z253.1) fun s256 =>
                      (1, s256)
                    else
                      if v39 = 10 then
                        lt (m_logic σ (v25 ||| v33)) fun z270 =>
                        lt (sst z270.2 1 (v6).toNatClampNeg z270.1) fun s273 =>
                        (1, s273)
                      else
                        lt (sst σ 1 (v6).toNatClampNeg v33) fun s283 =>
                        (1, s283)
set_option maxHeartbeats 4000000 in
theorem ok_m_ofTwo (σ : Sg) (x1 : Int32) (ok : XOK σ) : (Pri XOK 1 3) (m_ofTwo σ x1) := by
  unfold m_ofTwo
  refine lt_pred (fun v6 e6 => ?_)
  have f6 : rg 0 31 v6 := by rw [e6]; exact (rg_and_r (rg_w (lo2 := 0) rl_31 (by decide) (Int.le_refl _)))
  refine lt_pred (fun v18 e18 => ?_)
  have f18 : rg 0 31 v18 := by rw [e18]; exact (rg_or 5 (rg_and_r (rg_w (lo2 := 0) rl_15 (by decide) (Int.le_refl _))) (rg_and_r (rg_w (lo2 := 0) rl_16 (by decide) (Int.le_refl _))) (by decide) (by decide) (by decide))
  refine lt_pred (fun v25 e25 => ?_)
  have f25 : rg 0 255 v25 := by rw [e25]; exact (xr_1 ok _)
  refine lt_pred (fun v33 e33 => ?_)
  have f33 : rg 0 255 v33 := by rw [e33]; exact (xr_1 ok _)
  refine lt_pred (fun v39 e39 => ?_)
  refine ite_pred (fun c39_0 => ?_) (fun c39_0 => ?_)
  · refine lt_pred (fun z98 e98 => ?_)
    have k98 : XOK z98.2 ∧ rg 1 2 z98.1 := by rw [e98]; exact ok_m_moves σ x1 ok
    exact ⟨k98.1, (rg_w k98.2 (by decide) (by decide))⟩
  · refine ite_pred (fun c39_1 => ?_) (fun c39_1 => ?_)
    · refine lt_pred (fun z112 e112 => ?_)
      have k112 : XOK z112.2 ∧ rg 0 255 z112.1 := by rw [e112]; exact ok_m_subtract σ v25 v33 (m_carry σ) 1 ok (rg_w rl_1 (by decide) (by decide))
      exact ⟨k112.1, (rg_w rl_1 (by decide) (by decide))⟩
    · refine ite_pred (fun c39_2 => ?_) (fun c39_2 => ?_)
      · refine lt_pred (fun z133 e133 => ?_)
        have k133 : XOK z133.2 ∧ rg 0 255 z133.1 := by rw [e133]; exact ok_m_subtract σ v25 v33 (m_carry σ) 1 ok (rg_w rl_1 (by decide) (by decide))
        refine lt_pred (fun s136 e136 => ?_)
        have k136 : XOK s136 := by rw [e136]; exact xst_1 k133.1 k133.2
        exact ⟨k136, (rg_w rl_1 (by decide) (by decide))⟩
      · refine ite_pred (fun c39_3 => ?_) (fun c39_3 => ?_)
        · refine lt_pred (fun z150 e150 => ?_)
          have k150 : XOK z150.2 ∧ rg 0 255 z150.1 := by rw [e150]; exact ok_m_add σ v25 v33 0 ok
          refine lt_pred (fun s153 e153 => ?_)
          have k153 : XOK s153 := by rw [e153]; exact xst_1 k150.1 k150.2
          exact ⟨k153, (rg_w rl_1 (by decide) (by decide))⟩
        · refine ite_pred (fun c39_4 => ?_) (fun c39_4 => ?_)
          · refine jn_pred (fun z160 => rg 1 3 z160.1 ∧ XOK z160.2) (fun z160 h160 => ?_) ?_
            · exact ⟨h160.2, h160.1⟩
            · refine ite_pred (fun c160 => ?_) (fun c160 => ?_)
              · refine lt_pred (fun z165 e165 => ?_)
                have k165 : XOK z165.2 ∧ rg 1 2 z165.1 := by rw [e165]; exact ok_m_skips σ ok
                exact app_i ⟨(rg_w (rg_add rl_1 k165.2 (by decide) (by decide)) (by decide) (by decide)), k165.1⟩
              · exact app_i ⟨(rg_w rl_1 (by decide) (by decide)), ok⟩
          · refine ite_pred (fun c39_5 => ?_) (fun c39_5 => ?_)
            · refine lt_pred (fun z181 e181 => ?_)
              have k181 : XOK z181.2 ∧ rg 0 255 z181.1 := by rw [e181]; exact ok_m_subtract σ v25 v33 0 0 ok (rg_w rl_0 (by decide) (by decide))
              exact ⟨k181.1, (rg_w rl_1 (by decide) (by decide))⟩
            · refine ite_pred (fun c39_6 => ?_) (fun c39_6 => ?_)
              · refine lt_pred (fun z199 e199 => ?_)
                have k199 : XOK z199.2 ∧ rg 0 255 z199.1 := by rw [e199]; exact ok_m_subtract σ v25 v33 0 0 ok (rg_w rl_0 (by decide) (by decide))
                refine lt_pred (fun s202 e202 => ?_)
                have k202 : XOK s202 := by rw [e202]; exact xst_1 k199.1 k199.2
                exact ⟨k202, (rg_w rl_1 (by decide) (by decide))⟩
              · refine ite_pred (fun c39_7 => ?_) (fun c39_7 => ?_)
                · refine lt_pred (fun z219 e219 => ?_)
                  have k219 : XOK z219.2 ∧ rg 0 255 z219.1 := by rw [e219]; exact ok_m_add σ v25 v33 (m_carry σ) ok
                  refine lt_pred (fun s222 e222 => ?_)
                  have k222 : XOK s222 := by rw [e222]; exact xst_1 k219.1 k219.2
                  exact ⟨k222, (rg_w rl_1 (by decide) (by decide))⟩
                · refine ite_pred (fun c39_8 => ?_) (fun c39_8 => ?_)
                  · refine lt_pred (fun z236 e236 => ?_)
                    have k236 : XOK z236.2 ∧ rg 0 255 z236.1 := by rw [e236]; exact ok_m_logic σ (v25 &&& v33) ok (rg_and_r f33)
                    refine lt_pred (fun s239 e239 => ?_)
                    have k239 : XOK s239 := by rw [e239]; exact xst_1 k236.1 k236.2
                    exact ⟨k239, (rg_w rl_1 (by decide) (by decide))⟩
                  · refine ite_pred (fun c39_9 => ?_) (fun c39_9 => ?_)
                    · refine lt_pred (fun z253 e253 => ?_)
                      have k253 : XOK z253.2 ∧ rg 0 255 z253.1 := by rw [e253]; exact ok_m_logic σ (v25 ^^^ v33) ok (rg_xor 8 f25 f33 (by decide) (by decide) (by decide))
                      refine lt_pred (fun s256 e256 => ?_)
                      have k256 : XOK s256 := by rw [e256]; exact xst_1 k253.1 k253.2
                      exact ⟨k256, (rg_w rl_1 (by decide) (by decide))⟩
                    · refine ite_pred (fun c39_10 => ?_) (fun c39_10 => ?_)
                      · refine lt_pred (fun z270 e270 => ?_)
                        have k270 : XOK z270.2 ∧ rg 0 255 z270.1 := by rw [e270]; exact ok_m_logic σ (v25 ||| v33) ok (rg_or 8 f25 f33 (by decide) (by decide) (by decide))
                        refine lt_pred (fun s273 e273 => ?_)
                        have k273 : XOK s273 := by rw [e273]; exact xst_1 k270.1 k270.2
                        exact ⟨k273, (rg_w rl_1 (by decide) (by decide))⟩
                      · refine lt_pred (fun s283 e283 => ?_)
                        have k283 : XOK s283 := by rw [e283]; exact xst_1 ok f33
                        exact ⟨k283, (rg_w rl_1 (by decide) (by decide))⟩

set_option maxHeartbeats 4000000 in
theorem kp_m_ofTwo (σ : Sg) (x1 : Int32) {ka kb : Int32} {m : Int} (hk : Kp ka kb m σ) (hm : m ≤ 1500260000) : Kp ka kb m (m_ofTwo σ x1).2 := by
  have hm0 : 0 ≤ m := hk.nn
  show Kpi ka kb m (m_ofTwo σ x1)
  unfold m_ofTwo
  refine lt_pred (fun v6 e6 => ?_)
  refine lt_pred (fun v18 e18 => ?_)
  refine lt_pred (fun v25 e25 => ?_)
  refine lt_pred (fun v33 e33 => ?_)
  refine lt_pred (fun v39 e39 => ?_)
  refine ite_pred (fun c39_0 => ?_) (fun c39_0 => ?_)
  · refine lt_pred (fun z98 e98 => ?_)
    have q98 : Kp ka kb m z98.2 := by rw [e98]; exact Kp.w (kp_m_moves σ x1 hk (by omega)) (by omega)
    exact Kp.w q98 (by omega)
  · refine ite_pred (fun c39_1 => ?_) (fun c39_1 => ?_)
    · refine lt_pred (fun z112 e112 => ?_)
      have q112 : Kp ka kb m z112.2 := by rw [e112]; exact Kp.w (kp_m_subtract σ v25 v33 (m_carry σ) 1 hk (by omega)) (by omega)
      exact Kp.w q112 (by omega)
    · refine ite_pred (fun c39_2 => ?_) (fun c39_2 => ?_)
      · refine lt_pred (fun z133 e133 => ?_)
        have q133 : Kp ka kb m z133.2 := by rw [e133]; exact Kp.w (kp_m_subtract σ v25 v33 (m_carry σ) 1 hk (by omega)) (by omega)
        refine lt_pred (fun s136 e136 => ?_)
        have q136 : Kp ka kb m s136 := by rw [e136]; exact Kp.same q133 rfl rfl rfl
        exact Kp.w q136 (by omega)
      · refine ite_pred (fun c39_3 => ?_) (fun c39_3 => ?_)
        · refine lt_pred (fun z150 e150 => ?_)
          have q150 : Kp ka kb m z150.2 := by rw [e150]; exact Kp.w (kp_m_add σ v25 v33 0 hk (by omega)) (by omega)
          refine lt_pred (fun s153 e153 => ?_)
          have q153 : Kp ka kb m s153 := by rw [e153]; exact Kp.same q150 rfl rfl rfl
          exact Kp.w q153 (by omega)
        · refine ite_pred (fun c39_4 => ?_) (fun c39_4 => ?_)
          · refine jn_pred (fun z160 => Kp ka kb m z160.2) (fun z160 h160 => ?_) ?_
            · exact Kp.w h160 (by omega)
            · refine ite_pred (fun c160 => ?_) (fun c160 => ?_)
              · refine lt_pred (fun z165 e165 => ?_)
                have q165 : Kp ka kb m z165.2 := by rw [e165]; exact Kp.w (kp_m_skips σ hk (by omega)) (by omega)
                exact app_i (Kp.w q165 (by omega))
              · exact app_i (Kp.w hk (by omega))
          · refine ite_pred (fun c39_5 => ?_) (fun c39_5 => ?_)
            · refine lt_pred (fun z181 e181 => ?_)
              have q181 : Kp ka kb m z181.2 := by rw [e181]; exact Kp.w (kp_m_subtract σ v25 v33 0 0 hk (by omega)) (by omega)
              exact Kp.w q181 (by omega)
            · refine ite_pred (fun c39_6 => ?_) (fun c39_6 => ?_)
              · refine lt_pred (fun z199 e199 => ?_)
                have q199 : Kp ka kb m z199.2 := by rw [e199]; exact Kp.w (kp_m_subtract σ v25 v33 0 0 hk (by omega)) (by omega)
                refine lt_pred (fun s202 e202 => ?_)
                have q202 : Kp ka kb m s202 := by rw [e202]; exact Kp.same q199 rfl rfl rfl
                exact Kp.w q202 (by omega)
              · refine ite_pred (fun c39_7 => ?_) (fun c39_7 => ?_)
                · refine lt_pred (fun z219 e219 => ?_)
                  have q219 : Kp ka kb m z219.2 := by rw [e219]; exact Kp.w (kp_m_add σ v25 v33 (m_carry σ) hk (by omega)) (by omega)
                  refine lt_pred (fun s222 e222 => ?_)
                  have q222 : Kp ka kb m s222 := by rw [e222]; exact Kp.same q219 rfl rfl rfl
                  exact Kp.w q222 (by omega)
                · refine ite_pred (fun c39_8 => ?_) (fun c39_8 => ?_)
                  · refine lt_pred (fun z236 e236 => ?_)
                    have q236 : Kp ka kb m z236.2 := by rw [e236]; exact Kp.w (kp_m_logic σ (v25 &&& v33) hk (by omega)) (by omega)
                    refine lt_pred (fun s239 e239 => ?_)
                    have q239 : Kp ka kb m s239 := by rw [e239]; exact Kp.same q236 rfl rfl rfl
                    exact Kp.w q239 (by omega)
                  · refine ite_pred (fun c39_9 => ?_) (fun c39_9 => ?_)
                    · refine lt_pred (fun z253 e253 => ?_)
                      have q253 : Kp ka kb m z253.2 := by rw [e253]; exact Kp.w (kp_m_logic σ (v25 ^^^ v33) hk (by omega)) (by omega)
                      refine lt_pred (fun s256 e256 => ?_)
                      have q256 : Kp ka kb m s256 := by rw [e256]; exact Kp.same q253 rfl rfl rfl
                      exact Kp.w q256 (by omega)
                    · refine ite_pred (fun c39_10 => ?_) (fun c39_10 => ?_)
                      · refine lt_pred (fun z270 e270 => ?_)
                        have q270 : Kp ka kb m z270.2 := by rw [e270]; exact Kp.w (kp_m_logic σ (v25 ||| v33) hk (by omega)) (by omega)
                        refine lt_pred (fun s273 e273 => ?_)
                        have q273 : Kp ka kb m s273 := by rw [e273]; exact Kp.same q270 rfl rfl rfl
                        exact Kp.w q273 (by omega)
                      · refine lt_pred (fun s283 e283 => ?_)
                        have q283 : Kp ka kb m s283 := by rw [e283]; exact Kp.same hk rfl rfl rfl
                        exact Kp.w q283 (by omega)

def m_ofNumber (σ : Sg) (x1 : Int32) : Int32 × Sg :=
  lt ((16 + ((x1 >>> (4 : Int32)) &&& 15)) : Int32) fun v9 =>
  lt (((x1 &&& 15) ||| ((x1 >>> (4 : Int32)) &&& 240)) : Int32) fun v22 =>
  lt ((σ 1 (v9).toNatClampNeg) : Int32) fun v29 =>
  lt ((x1 >>> (12 : Int32)) : Int32) fun v35 =>
  lt ((
    if v35 = 3 then
      lt (m_subtract σ v29 v22 0 0) fun z74 =>
      z74.2
    else
      if v35 = 4 then
        lt (m_subtract σ v29 v22 (m_carry σ) 1) fun z95 =>
        lt (sst z95.2 1 (v9).toNatClampNeg z95.1) fun s98 =>
        s98
      else
        if v35 = 5 then
          lt (m_subtract σ v29 v22 0 0) fun z113 =>
          lt (sst z113.2 1 (v9).toNatClampNeg z113.1) fun s116 =>
          s116
        else
          if v35 = 6 then
            lt (m_logic σ (v29 ||| v22)) fun z130 =>
            lt (sst z130.2 1 (v9).toNatClampNeg z130.1) fun s133 =>
            s133
          else
            if v35 = 7 then
              lt (m_logic σ (v29 &&& v22)) fun z147 =>
              lt (sst z147.2 1 (v9).toNatClampNeg z147.1) fun s150 =>
              s150
            else
              lt (sst σ 1 (v9).toNatClampNeg v22) fun s160 =>
              s160) : Sg) fun z35 =>
  (1, z35)
set_option maxHeartbeats 4000000 in
theorem ok_m_ofNumber (σ : Sg) (x1 : Int32) (ok : XOK σ) : (Pri XOK 1 1) (m_ofNumber σ x1) := by
  unfold m_ofNumber
  refine lt_pred (fun v9 e9 => ?_)
  have f9 : rg 16 31 v9 := by rw [e9]; exact (rg_add rl_16 (rg_and_r (rg_w (lo2 := 0) rl_15 (by decide) (Int.le_refl _))) (by decide) (by decide))
  refine lt_pred (fun v22 e22 => ?_)
  have f22 : rg 0 255 v22 := by rw [e22]; exact (rg_or 8 (rg_and_r (rg_w (lo2 := 0) rl_15 (by decide) (Int.le_refl _))) (rg_and_r (rg_w (lo2 := 0) rl_240 (by decide) (Int.le_refl _))) (by decide) (by decide) (by decide))
  refine lt_pred (fun v29 e29 => ?_)
  have f29 : rg 0 255 v29 := by rw [e29]; exact (xr_1 ok _)
  refine lt_pred (fun v35 e35 => ?_)
  refine jn_pred (fun z35 => XOK z35) (fun z35 h35 => ?_) ?_
  · exact ⟨h35, rl_1⟩
  · refine ite_pred (fun c35_3 => ?_) (fun c35_3 => ?_)
    · refine lt_pred (fun z74 e74 => ?_)
      have k74 : XOK z74.2 ∧ rg 0 255 z74.1 := by rw [e74]; exact ok_m_subtract σ v29 v22 0 0 ok (rg_w rl_0 (by decide) (by decide))
      exact app_i k74.1
    · refine ite_pred (fun c35_4 => ?_) (fun c35_4 => ?_)
      · refine lt_pred (fun z95 e95 => ?_)
        have k95 : XOK z95.2 ∧ rg 0 255 z95.1 := by rw [e95]; exact ok_m_subtract σ v29 v22 (m_carry σ) 1 ok (rg_w rl_1 (by decide) (by decide))
        refine lt_pred (fun s98 e98 => ?_)
        have k98 : XOK s98 := by rw [e98]; exact xst_1 k95.1 k95.2
        exact app_i k98
      · refine ite_pred (fun c35_5 => ?_) (fun c35_5 => ?_)
        · refine lt_pred (fun z113 e113 => ?_)
          have k113 : XOK z113.2 ∧ rg 0 255 z113.1 := by rw [e113]; exact ok_m_subtract σ v29 v22 0 0 ok (rg_w rl_0 (by decide) (by decide))
          refine lt_pred (fun s116 e116 => ?_)
          have k116 : XOK s116 := by rw [e116]; exact xst_1 k113.1 k113.2
          exact app_i k116
        · refine ite_pred (fun c35_6 => ?_) (fun c35_6 => ?_)
          · refine lt_pred (fun z130 e130 => ?_)
            have k130 : XOK z130.2 ∧ rg 0 255 z130.1 := by rw [e130]; exact ok_m_logic σ (v29 ||| v22) ok (rg_or 8 f29 f22 (by decide) (by decide) (by decide))
            refine lt_pred (fun s133 e133 => ?_)
            have k133 : XOK s133 := by rw [e133]; exact xst_1 k130.1 k130.2
            exact app_i k133
          · refine ite_pred (fun c35_7 => ?_) (fun c35_7 => ?_)
            · refine lt_pred (fun z147 e147 => ?_)
              have k147 : XOK z147.2 ∧ rg 0 255 z147.1 := by rw [e147]; exact ok_m_logic σ (v29 &&& v22) ok (rg_and_r f22)
              refine lt_pred (fun s150 e150 => ?_)
              have k150 : XOK s150 := by rw [e150]; exact xst_1 k147.1 k147.2
              exact app_i k150
            · refine lt_pred (fun s160 e160 => ?_)
              have k160 : XOK s160 := by rw [e160]; exact xst_1 ok f22
              exact app_i k160

set_option maxHeartbeats 4000000 in
theorem kp_m_ofNumber (σ : Sg) (x1 : Int32) {ka kb : Int32} {m : Int} (hk : Kp ka kb m σ) (hm : m ≤ 1500260000) : Kp ka kb m (m_ofNumber σ x1).2 := by
  have hm0 : 0 ≤ m := hk.nn
  show Kpi ka kb m (m_ofNumber σ x1)
  unfold m_ofNumber
  refine lt_pred (fun v9 e9 => ?_)
  refine lt_pred (fun v22 e22 => ?_)
  refine lt_pred (fun v29 e29 => ?_)
  refine lt_pred (fun v35 e35 => ?_)
  refine jn_pred (fun z35 => Kp ka kb m z35) (fun z35 h35 => ?_) ?_
  · exact Kp.w h35 (by omega)
  · refine ite_pred (fun c35_3 => ?_) (fun c35_3 => ?_)
    · refine lt_pred (fun z74 e74 => ?_)
      have q74 : Kp ka kb m z74.2 := by rw [e74]; exact Kp.w (kp_m_subtract σ v29 v22 0 0 hk (by omega)) (by omega)
      exact app_i (Kp.w q74 (by omega))
    · refine ite_pred (fun c35_4 => ?_) (fun c35_4 => ?_)
      · refine lt_pred (fun z95 e95 => ?_)
        have q95 : Kp ka kb m z95.2 := by rw [e95]; exact Kp.w (kp_m_subtract σ v29 v22 (m_carry σ) 1 hk (by omega)) (by omega)
        refine lt_pred (fun s98 e98 => ?_)
        have q98 : Kp ka kb m s98 := by rw [e98]; exact Kp.same q95 rfl rfl rfl
        exact app_i (Kp.w q98 (by omega))
      · refine ite_pred (fun c35_5 => ?_) (fun c35_5 => ?_)
        · refine lt_pred (fun z113 e113 => ?_)
          have q113 : Kp ka kb m z113.2 := by rw [e113]; exact Kp.w (kp_m_subtract σ v29 v22 0 0 hk (by omega)) (by omega)
          refine lt_pred (fun s116 e116 => ?_)
          have q116 : Kp ka kb m s116 := by rw [e116]; exact Kp.same q113 rfl rfl rfl
          exact app_i (Kp.w q116 (by omega))
        · refine ite_pred (fun c35_6 => ?_) (fun c35_6 => ?_)
          · refine lt_pred (fun z130 e130 => ?_)
            have q130 : Kp ka kb m z130.2 := by rw [e130]; exact Kp.w (kp_m_logic σ (v29 ||| v22) hk (by omega)) (by omega)
            refine lt_pred (fun s133 e133 => ?_)
            have q133 : Kp ka kb m s133 := by rw [e133]; exact Kp.same q130 rfl rfl rfl
            exact app_i (Kp.w q133 (by omega))
          · refine ite_pred (fun c35_7 => ?_) (fun c35_7 => ?_)
            · refine lt_pred (fun z147 e147 => ?_)
              have q147 : Kp ka kb m z147.2 := by rw [e147]; exact Kp.w (kp_m_logic σ (v29 &&& v22) hk (by omega)) (by omega)
              refine lt_pred (fun s150 e150 => ?_)
              have q150 : Kp ka kb m s150 := by rw [e150]; exact Kp.same q147 rfl rfl rfl
              exact app_i (Kp.w q150 (by omega))
            · refine lt_pred (fun s160 e160 => ?_)
              have q160 : Kp ka kb m s160 := by rw [e160]; exact Kp.same hk rfl rfl rfl
              exact app_i (Kp.w q160 (by omega))

def m_displaced (σ : Sg) (x1 : Int32) : Int32 × Sg :=
  lt ((((x1 &&& 7) ||| ((x1 >>> (7 : Int32)) &&& 24)) ||| ((x1 >>> (8 : Int32)) &&& 32)) : Int32) fun v20 =>
  lt ((
    if (x1 &&& 8) = 0 then
      30
    else
      28) : Int32) fun z26 =>
  lt ((((m_pointer σ z26) + v20) &&& 65535) : Int32) fun v44 =>
  lt (((x1 >>> (4 : Int32)) &&& 31) : Int32) fun v51 =>
  lt ((
    if (x1 &&& 512) = 0 then
      lt (m_load σ v44) fun z84 =>
      lt (sst z84.2 1 (v51).toNatClampNeg z84.1) fun s87 =>
      s87
    else
      lt (m_store σ v44 (σ 1 (v51).toNatClampNeg)) fun s70 =>
      s70) : Sg) fun z58 =>
  (2, z58)
set_option maxHeartbeats 4000000 in
theorem ok_m_displaced (σ : Sg) (x1 : Int32) (ok : XOK σ) : (Pri XOK 2 2) (m_displaced σ x1) := by
  unfold m_displaced
  refine lt_pred (fun v20 e20 => ?_)
  have f20 : rg 0 63 v20 := by rw [e20]; exact (rg_or 6 (rg_or 5 (rg_and_r (rg_w (lo2 := 0) rl_7 (by decide) (Int.le_refl _))) (rg_and_r (rg_w (lo2 := 0) rl_24 (by decide) (Int.le_refl _))) (by decide) (by decide) (by decide)) (rg_and_r (rg_w (lo2 := 0) rl_32 (by decide) (Int.le_refl _))) (by decide) (by decide) (by decide))
  refine jn_pred (fun z26 => rg 28 30 z26) (fun z26 h26 => ?_) ?_
  · refine lt_pred (fun v44 e44 => ?_)
    have f44 : rg 0 65535 v44 := by rw [e44]; exact (rg_and_r (rg_w (lo2 := 0) rl_65535 (by decide) (Int.le_refl _)))
    refine lt_pred (fun v51 e51 => ?_)
    have f51 : rg 0 31 v51 := by rw [e51]; exact (rg_and_r (rg_w (lo2 := 0) rl_31 (by decide) (Int.le_refl _)))
    refine jn_pred (fun z58 => XOK z58) (fun z58 h58 => ?_) ?_
    · exact ⟨h58, rl_2⟩
    · refine ite_pred (fun c58 => ?_) (fun c58 => ?_)
      · refine lt_pred (fun z84 e84 => ?_)
        have k84 : XOK z84.2 ∧ rg 0 255 z84.1 := by rw [e84]; exact ok_m_load σ v44 ok f44
        refine lt_pred (fun s87 e87 => ?_)
        have k87 : XOK s87 := by rw [e87]; exact xst_1 k84.1 k84.2
        exact app_i k87
      · refine lt_pred (fun s70 e70 => ?_)
        have k70 : XOK s70 := by rw [e70]; exact ok_m_store σ v44 (σ 1 (v51).toNatClampNeg) ok f44 (xr_1 ok _)
        exact app_i k70
  · refine ite_pred (fun c26 => ?_) (fun c26 => ?_)
    · exact app_i (rg_w rl_30 (by decide) (by decide))
    · exact app_i (rg_w rl_28 (by decide) (by decide))

set_option maxHeartbeats 4000000 in
theorem kp_m_displaced (σ : Sg) (x1 : Int32) {ka kb : Int32} {m : Int} (hk : Kp ka kb m σ) (hm : m ≤ 1500260000) : Kp ka kb (m + 4) (m_displaced σ x1).2 := by
  have hm0 : 0 ≤ m := hk.nn
  show Kpi ka kb (m + 4) (m_displaced σ x1)
  unfold m_displaced
  refine lt_pred (fun v20 e20 => ?_)
  refine jn_pred (fun z26 => True) (fun z26 h26 => ?_) ?_
  · refine lt_pred (fun v44 e44 => ?_)
    refine lt_pred (fun v51 e51 => ?_)
    refine jn_pred (fun z58 => Kp ka kb (m + 4) z58) (fun z58 h58 => ?_) ?_
    · exact Kp.w h58 (by omega)
    · refine ite_pred (fun c58 => ?_) (fun c58 => ?_)
      · refine lt_pred (fun z84 e84 => ?_)
        have q84 : Kp ka kb m z84.2 := by rw [e84]; exact Kp.w (kp_m_load σ v44 hk (by omega)) (by omega)
        refine lt_pred (fun s87 e87 => ?_)
        have q87 : Kp ka kb m s87 := by rw [e87]; exact Kp.same q84 rfl rfl rfl
        exact app_i (Kp.w q87 (by omega))
      · refine lt_pred (fun s70 e70 => ?_)
        have q70 : Kp ka kb (m + 4) s70 := by rw [e70]; exact Kp.w (kp_m_store σ v44 (σ 1 (v51).toNatClampNeg) hk (by omega)) (by omega)
        exact app_i (Kp.w q70 (by omega))
  · refine ite_pred (fun c26 => ?_) (fun c26 => ?_)
    · exact app_i trivial
    · exact app_i trivial

def m_ports (σ : Sg) (x1 : Int32) : Int32 × Sg :=
  lt ((32 + ((x1 &&& 15) ||| ((x1 >>> (5 : Int32)) &&& 48))) : Int32) fun v14 =>
  lt (((x1 >>> (4 : Int32)) &&& 31) : Int32) fun v21 =>
  lt ((
    if (x1 &&& 2048) = 0 then
      lt (m_load σ v14) fun z51 =>
      lt (sst z51.2 1 (v21).toNatClampNeg z51.1) fun s54 =>
      s54
    else
      lt (m_store σ v14 (σ 1 (v21).toNatClampNeg)) fun s38 =>
      s38) : Sg) fun z27 =>
  (1, z27)
set_option maxHeartbeats 4000000 in
theorem ok_m_ports (σ : Sg) (x1 : Int32) (ok : XOK σ) : (Pri XOK 1 1) (m_ports σ x1) := by
  unfold m_ports
  refine lt_pred (fun v14 e14 => ?_)
  have f14 : rg 32 95 v14 := by rw [e14]; exact (rg_add rl_32 (rg_or 6 (rg_and_r (rg_w (lo2 := 0) rl_15 (by decide) (Int.le_refl _))) (rg_and_r (rg_w (lo2 := 0) rl_48 (by decide) (Int.le_refl _))) (by decide) (by decide) (by decide)) (by decide) (by decide))
  refine lt_pred (fun v21 e21 => ?_)
  have f21 : rg 0 31 v21 := by rw [e21]; exact (rg_and_r (rg_w (lo2 := 0) rl_31 (by decide) (Int.le_refl _)))
  refine jn_pred (fun z27 => XOK z27) (fun z27 h27 => ?_) ?_
  · exact ⟨h27, rl_1⟩
  · refine ite_pred (fun c27 => ?_) (fun c27 => ?_)
    · refine lt_pred (fun z51 e51 => ?_)
      have k51 : XOK z51.2 ∧ rg 0 255 z51.1 := by rw [e51]; exact ok_m_load σ v14 ok (rg_w f14 (by decide) (by decide))
      refine lt_pred (fun s54 e54 => ?_)
      have k54 : XOK s54 := by rw [e54]; exact xst_1 k51.1 k51.2
      exact app_i k54
    · refine lt_pred (fun s38 e38 => ?_)
      have k38 : XOK s38 := by rw [e38]; exact ok_m_store σ v14 (σ 1 (v21).toNatClampNeg) ok (rg_w f14 (by decide) (by decide)) (xr_1 ok _)
      exact app_i k38

set_option maxHeartbeats 4000000 in
theorem kp_m_ports (σ : Sg) (x1 : Int32) {ka kb : Int32} {m : Int} (hk : Kp ka kb m σ) (hm : m ≤ 1500260000) : Kp ka kb (m + 4) (m_ports σ x1).2 := by
  have hm0 : 0 ≤ m := hk.nn
  show Kpi ka kb (m + 4) (m_ports σ x1)
  unfold m_ports
  refine lt_pred (fun v14 e14 => ?_)
  refine lt_pred (fun v21 e21 => ?_)
  refine jn_pred (fun z27 => Kp ka kb (m + 4) z27) (fun z27 h27 => ?_) ?_
  · exact Kp.w h27 (by omega)
  · refine ite_pred (fun c27 => ?_) (fun c27 => ?_)
    · refine lt_pred (fun z51 e51 => ?_)
      have q51 : Kp ka kb m z51.2 := by rw [e51]; exact Kp.w (kp_m_load σ v14 hk (by omega)) (by omega)
      refine lt_pred (fun s54 e54 => ?_)
      have q54 : Kp ka kb m s54 := by rw [e54]; exact Kp.same q51 rfl rfl rfl
      exact app_i (Kp.w q54 (by omega))
    · refine lt_pred (fun s38 e38 => ?_)
      have q38 : Kp ka kb (m + 4) s38 := by rw [e38]; exact Kp.w (kp_m_store σ v14 (σ 1 (v21).toNatClampNeg) hk (by omega)) (by omega)
      exact app_i (Kp.w q38 (by omega))

def m_relative (σ : Sg) (x1 : Int32) : Int32 × Sg :=
  lt ((x1 &&& 4095) : Int32) fun v5 =>
  lt ((
    if (x1 >>> (12 : Int32)) = 13 then
      lt (m_pushPlace σ (σ 0 0)) fun s20 =>
      s20
    else
      σ) : Sg) fun z12 =>
  lt (sst z12 0 0 (((z12 0 0) + v5) &&& 2047)) fun s34 =>
  lt ((
    if (x1 >>> (12 : Int32)) = 13 then
      3
    else
      2) : Int32) fun z43 =>
  (z43, s34)
set_option maxHeartbeats 4000000 in
theorem ok_m_relative (σ : Sg) (x1 : Int32) (ok : XOK σ) : (Pri XOK 2 3) (m_relative σ x1) := by
  unfold m_relative
  refine lt_pred (fun v5 e5 => ?_)
  have f5 : rg 0 4095 v5 := by rw [e5]; exact (rg_and_r (rg_w (lo2 := 0) rl_4095 (by decide) (Int.le_refl _)))
  refine jn_pred (fun z12 => XOK z12) (fun z12 h12 => ?_) ?_
  · refine lt_pred (fun s34 e34 => ?_)
    have k34 : XOK s34 := by rw [e34]; exact xst_0_0 h12 (rg_and_r (rg_w (lo2 := 0) rl_2047 (by decide) (Int.le_refl _)))
    refine jn_pred (fun z43 => rg 2 3 z43) (fun z43 h43 => ?_) ?_
    · exact ⟨k34, h43⟩
    · refine ite_pred (fun c43 => ?_) (fun c43 => ?_)
      · exact app_i (rg_w rl_3 (by decide) (by decide))
      · exact app_i (rg_w rl_2 (by decide) (by decide))
  · refine ite_pred (fun c12 => ?_) (fun c12 => ?_)
    · refine lt_pred (fun s20 e20 => ?_)
      have k20 : XOK s20 := by rw [e20]; exact ok_m_pushPlace σ (σ 0 0) ok (xr0_0 ok)
      exact app_i k20
    · exact app_i ok

set_option maxHeartbeats 4000000 in
theorem kp_m_relative (σ : Sg) (x1 : Int32) {ka kb : Int32} {m : Int} (hk : Kp ka kb m σ) (hm : m ≤ 1500240000) : Kp ka kb (m + 8) (m_relative σ x1).2 := by
  have hm0 : 0 ≤ m := hk.nn
  show Kpi ka kb (m + 8) (m_relative σ x1)
  unfold m_relative
  refine lt_pred (fun v5 e5 => ?_)
  refine jn_pred (fun z12 => Kp ka kb (m + 8) z12) (fun z12 h12 => ?_) ?_
  · refine lt_pred (fun s34 e34 => ?_)
    have q34 : Kp ka kb (m + 8) s34 := by rw [e34]; exact Kp.same h12 rfl rfl rfl
    refine jn_pred (fun z43 => True) (fun z43 h43 => ?_) ?_
    · exact Kp.w q34 (by omega)
    · refine ite_pred (fun c43 => ?_) (fun c43 => ?_)
      · exact app_i trivial
      · exact app_i trivial
  · refine ite_pred (fun c12 => ?_) (fun c12 => ?_)
    · refine lt_pred (fun s20 e20 => ?_)
      have q20 : Kp ka kb (m + 8) s20 := by rw [e20]; exact Kp.w (kp_m_pushPlace σ (σ 0 0) hk (by omega)) (by omega)
      exact app_i (Kp.w q20 (by omega))
    · exact app_i (Kp.w hk (by omega))

def m_bits (σ : Sg) (x1 : Int32) : Int32 × Sg :=
  lt ((x1 &&& 7) : Int32) fun v4 =>
  lt (((x1 >>> (4 : Int32)) &&& 31) : Int32) fun v11 =>
  if (x1 &&& 2048) = 0 then
    lt (((x1 >>> (3 : Int32)) &&& 127) : Int32) fun v26 =>
    lt ((
      if (x1 &&& 1024) = 0 then
        0
      else
        1) : Int32) fun z38 =>
    if (m_flag σ v4) = z38 then
      (1, σ)
    else
      lt ((
        if v26 < 64 then
          v26
        else
          (v26 - 128)) : Int32) fun z60 =>
      lt (sst σ 0 0 (((σ 0 0) + z60) &&& 2047)) fun s79 =>
      (2, s79)
  else
    if (x1 &&& 8) = 0 then
      lt ((
        if (((σ 1 (v11).toNatClampNeg) >>> (v4 &&& 31)) &&& 1) = 1 then
          1
        else
          0) : Int32) fun z104 =>
      lt (((x1 >>> (9 : Int32)) &&& 3) : Int32) fun v120 =>
      if v120 = 0 then
        lt ((
          if (m_flag σ 6) = 0 then
            ((σ 1 (v11).toNatClampNeg) &&& (((1 : Int32) <<< (v4 &&& 31)) ^^^ (-1)))
          else
            ((σ 1 (v11).toNatClampNeg) ||| ((1 : Int32) <<< (v4 &&& 31)))) : Int32) fun z159 =>
        lt (sst σ 1 (v11).toNatClampNeg z159) fun s187 =>
        (1, s187)
      else
        if v120 = 1 then
          lt (m_setFlag σ 6 z104) fun s195 =>
          (1, s195)
        else
          lt ((
            if ((x1 >>> (9 : Int32)) &&& 1) = 1 then
              1
            else
              0) : Int32) fun z209 =>
          lt ((
            if z104 = z209 then
              lt (m_skips σ) fun z222 =>
              ((1 + z222.1), z222.2)
            else
              (1, σ)) : Int32 × Sg) fun z217 =>
          (z217.1, z217.2)
    else
      (1, σ)
set_option maxHeartbeats 4000000 in
theorem ok_m_bits (σ : Sg) (x1 : Int32) (ok : XOK σ) : (Pri XOK 1 3) (m_bits σ x1) := by
  unfold m_bits
  refine lt_pred (fun v4 e4 => ?_)
  have f4 : rg 0 7 v4 := by rw [e4]; exact (rg_and_r (rg_w (lo2 := 0) rl_7 (by decide) (Int.le_refl _)))
  refine lt_pred (fun v11 e11 => ?_)
  have f11 : rg 0 31 v11 := by rw [e11]; exact (rg_and_r (rg_w (lo2 := 0) rl_31 (by decide) (Int.le_refl _)))
  refine ite_pred (fun c17 => ?_) (fun c17 => ?_)
  · refine lt_pred (fun v26 e26 => ?_)
    have f26 : rg 0 127 v26 := by rw [e26]; exact (rg_and_r (rg_w (lo2 := 0) rl_127 (by decide) (Int.le_refl _)))
    refine jn_pred (fun z38 => rg 0 1 z38) (fun z38 h38 => ?_) ?_
    · refine ite_pred (fun c46 => ?_) (fun c46 => ?_)
      · exact ⟨ok, (rg_w rl_1 (by decide) (by decide))⟩
      · refine jn_pred (fun z60 => rg (-64) 63 z60) (fun z60 h60 => ?_) ?_
        · refine lt_pred (fun s79 e79 => ?_)
          have k79 : XOK s79 := by rw [e79]; exact xst_0_0 ok (rg_and_r (rg_w (lo2 := 0) rl_2047 (by decide) (Int.le_refl _)))
          exact ⟨k79, (rg_w rl_2 (by decide) (by decide))⟩
        · refine ite_pred (fun c60 => ?_) (fun c60 => ?_)
          · exact app_i (rg_w (rg_lt_hi f26 c60 rl_64) (by decide) (by decide))
          · exact app_i (rg_w (rg_sub (rg_nlt_lo f26 c60 rl_64) rl_128 (by decide) (by decide)) (by decide) (by decide))
    · refine ite_pred (fun c38 => ?_) (fun c38 => ?_)
      · exact app_i (rg_w rl_0 (by decide) (by decide))
      · exact app_i (rg_w rl_1 (by decide) (by decide))
  · refine ite_pred (fun c88 => ?_) (fun c88 => ?_)
    · refine jn_pred (fun z104 => rg 0 1 z104) (fun z104 h104 => ?_) ?_
      · refine lt_pred (fun v120 e120 => ?_)
        have f120 : rg 0 3 v120 := by rw [e120]; exact (rg_and_r (rg_w (lo2 := 0) rl_3 (by decide) (Int.le_refl _)))
        refine ite_pred (fun c120_0 => ?_) (fun c120_0 => ?_)
        · refine jn_pred (fun z159 => rg 0 255 z159) (fun z159 h159 => ?_) ?_
          · refine lt_pred (fun s187 e187 => ?_)
            have k187 : XOK s187 := by rw [e187]; exact xst_1 ok h159
            exact ⟨k187, (rg_w rl_1 (by decide) (by decide))⟩
          · refine ite_pred (fun c159 => ?_) (fun c159 => ?_)
            · exact app_i (rg_and_l (xr_1 ok _))
            · exact app_i (rg_or 8 (xr_1 ok _) (rg_bit f4 (by decide)) (by decide) (by decide) (by decide))
        · refine ite_pred (fun c120_1 => ?_) (fun c120_1 => ?_)
          · refine lt_pred (fun s195 e195 => ?_)
            have k195 : XOK s195 := by rw [e195]; exact ok_m_setFlag σ 6 z104 ok (rg_w rl_6 (by decide) (by decide)) h104
            exact ⟨k195, (rg_w rl_1 (by decide) (by decide))⟩
          · refine jn_pred (fun z209 => rg 0 1 z209) (fun z209 h209 => ?_) ?_
            · refine jn_pred (fun z217 => rg 1 3 z217.1 ∧ XOK z217.2) (fun z217 h217 => ?_) ?_
              · exact ⟨h217.2, h217.1⟩
              · refine ite_pred (fun c217 => ?_) (fun c217 => ?_)
                · refine lt_pred (fun z222 e222 => ?_)
                  have k222 : XOK z222.2 ∧ rg 1 2 z222.1 := by rw [e222]; exact ok_m_skips σ ok
                  exact app_i ⟨(rg_w (rg_add rl_1 k222.2 (by decide) (by decide)) (by decide) (by decide)), k222.1⟩
                · exact app_i ⟨(rg_w rl_1 (by decide) (by decide)), ok⟩
            · refine ite_pred (fun c209 => ?_) (fun c209 => ?_)
              · exact app_i (rg_w rl_1 (by decide) (by decide))
              · exact app_i (rg_w rl_0 (by decide) (by decide))
      · refine ite_pred (fun c104 => ?_) (fun c104 => ?_)
        · exact app_i (rg_w rl_1 (by decide) (by decide))
        · exact app_i (rg_w rl_0 (by decide) (by decide))
    · exact ⟨ok, (rg_w rl_1 (by decide) (by decide))⟩

set_option maxHeartbeats 4000000 in
theorem kp_m_bits (σ : Sg) (x1 : Int32) {ka kb : Int32} {m : Int} (hk : Kp ka kb m σ) (hm : m ≤ 1500260000) : Kp ka kb m (m_bits σ x1).2 := by
  have hm0 : 0 ≤ m := hk.nn
  show Kpi ka kb m (m_bits σ x1)
  unfold m_bits
  refine lt_pred (fun v4 e4 => ?_)
  refine lt_pred (fun v11 e11 => ?_)
  refine ite_pred (fun c17 => ?_) (fun c17 => ?_)
  · refine lt_pred (fun v26 e26 => ?_)
    refine jn_pred (fun z38 => True) (fun z38 h38 => ?_) ?_
    · refine ite_pred (fun c46 => ?_) (fun c46 => ?_)
      · exact Kp.w hk (by omega)
      · refine jn_pred (fun z60 => True) (fun z60 h60 => ?_) ?_
        · refine lt_pred (fun s79 e79 => ?_)
          have q79 : Kp ka kb m s79 := by rw [e79]; exact Kp.same hk rfl rfl rfl
          exact Kp.w q79 (by omega)
        · refine ite_pred (fun c60 => ?_) (fun c60 => ?_)
          · exact app_i trivial
          · exact app_i trivial
    · refine ite_pred (fun c38 => ?_) (fun c38 => ?_)
      · exact app_i trivial
      · exact app_i trivial
  · refine ite_pred (fun c88 => ?_) (fun c88 => ?_)
    · refine jn_pred (fun z104 => True) (fun z104 h104 => ?_) ?_
      · refine lt_pred (fun v120 e120 => ?_)
        refine ite_pred (fun c120_0 => ?_) (fun c120_0 => ?_)
        · refine jn_pred (fun z159 => True) (fun z159 h159 => ?_) ?_
          · refine lt_pred (fun s187 e187 => ?_)
            have q187 : Kp ka kb m s187 := by rw [e187]; exact Kp.same hk rfl rfl rfl
            exact Kp.w q187 (by omega)
          · refine ite_pred (fun c159 => ?_) (fun c159 => ?_)
            · exact app_i trivial
            · exact app_i trivial
        · refine ite_pred (fun c120_1 => ?_) (fun c120_1 => ?_)
          · refine lt_pred (fun s195 e195 => ?_)
            have q195 : Kp ka kb m s195 := by rw [e195]; exact Kp.w (kp_m_setFlag σ 6 z104 hk (by omega)) (by omega)
            exact Kp.w q195 (by omega)
          · refine jn_pred (fun z209 => True) (fun z209 h209 => ?_) ?_
            · refine jn_pred (fun z217 => Kp ka kb m z217.2) (fun z217 h217 => ?_) ?_
              · exact Kp.w h217 (by omega)
              · refine ite_pred (fun c217 => ?_) (fun c217 => ?_)
                · refine lt_pred (fun z222 e222 => ?_)
                  have q222 : Kp ka kb m z222.2 := by rw [e222]; exact Kp.w (kp_m_skips σ hk (by omega)) (by omega)
                  exact app_i (Kp.w q222 (by omega))
                · exact app_i (Kp.w hk (by omega))
            · refine ite_pred (fun c209 => ?_) (fun c209 => ?_)
              · exact app_i trivial
              · exact app_i trivial
      · refine ite_pred (fun c104 => ?_) (fun c104 => ?_)
        · exact app_i trivial
        · exact app_i trivial
    · exact Kp.w hk (by omega)

def m_place (σ : Sg) (x1 : Int32) : Int32 × Sg :=
  lt ((
    if (x1 = 1) ∨ (x1 = 2) then
      30
    else
      if (x1 = 9) ∨ (x1 = 10) then
        28
      else
        if (x1 < 12) ∨ (14 < x1) then
          (-1)
        else
          26) : Int32) fun z2 =>
  if x1 = 0 then
    lt (m_next σ) fun z56 =>
    (z56.1, z56.2)
  else
    if z2 = (-1) then
      ((-1), σ)
    else
      lt ((m_pointer σ z2) : Int32) fun v72 =>
      lt ((
        if x1 = 12 then
          0
        else
          if (x1 = 1) ∨ ((x1 = 9) ∨ (x1 = 13)) then
            1
          else
            (-1)) : Int32) fun z76 =>
      lt (m_setPointer σ z2 (v72 + z76)) fun s113 =>
      lt ((
        if z76 = (-1) then
          ((v72 - 1) &&& 65535)
        else
          v72) : Int32) fun z119 =>
      (z119, s113)
set_option maxHeartbeats 4000000 in
theorem ok_m_place (σ : Sg) (x1 : Int32) (ok : XOK σ) : (Pri XOK (-1) 65535) (m_place σ x1) := by
  unfold m_place
  refine jn_pred (fun z2 => rg (-1) 30 z2) (fun z2 h2 => ?_) ?_
  · refine ite_pred (fun c52 => ?_) (fun c52 => ?_)
    · refine lt_pred (fun z56 e56 => ?_)
      have k56 : XOK z56.2 ∧ rg 0 65535 z56.1 := by rw [e56]; exact ok_m_next σ ok
      exact ⟨k56.1, (rg_w k56.2 (by decide) (by decide))⟩
    · refine ite_pred (fun c62 => ?_) (fun c62 => ?_)
      · exact ⟨ok, (rg_w rl_m1 (by decide) (by decide))⟩
      · refine lt_pred (fun v72 e72 => ?_)
        have f72 : rg 0 65535 v72 := by rw [e72]; exact (ok_m_pointer σ z2 ok (rg_w (rg_ne_lo h2 c62 (by decide +kernel)) (by decide) (by decide)))
        refine jn_pred (fun z76 => rg (-1) 1 z76) (fun z76 h76 => ?_) ?_
        · refine lt_pred (fun s113 e113 => ?_)
          have k113 : XOK s113 := by rw [e113]; exact ok_m_setPointer σ z2 (v72 + z76) ok (rg_w (rg_ne_lo h2 c62 (by decide +kernel)) (by decide) (by decide))
          refine jn_pred (fun z119 => rg 0 65535 z119) (fun z119 h119 => ?_) ?_
          · exact ⟨k113, (rg_w h119 (by decide) (by decide))⟩
          · refine ite_pred (fun c119 => ?_) (fun c119 => ?_)
            · exact app_i (rg_and_r (rg_w (lo2 := 0) rl_65535 (by decide) (Int.le_refl _)))
            · exact app_i f72
        · refine ite_pred (fun c76 => ?_) (fun c76 => ?_)
          · exact app_i (rg_w rl_0 (by decide) (by decide))
          · refine ite_pred (fun c85 => ?_) (fun c85 => ?_)
            · exact app_i (rg_w rl_1 (by decide) (by decide))
            · exact app_i (rg_w rl_m1 (by decide) (by decide))
  · refine ite_pred (fun c2 => ?_) (fun c2 => ?_)
    · exact app_i (rg_w rl_30 (by decide) (by decide))
    · refine ite_pred (fun c18 => ?_) (fun c18 => ?_)
      · exact app_i (rg_w rl_28 (by decide) (by decide))
      · refine ite_pred (fun c35 => ?_) (fun c35 => ?_)
        · exact app_i (rg_w rl_m1 (by decide) (by decide))
        · exact app_i (rg_w rl_26 (by decide) (by decide))

set_option maxHeartbeats 4000000 in
theorem kp_m_place (σ : Sg) (x1 : Int32) {ka kb : Int32} {m : Int} (hk : Kp ka kb m σ) (hm : m ≤ 1500270000) : Kp ka kb m (m_place σ x1).2 := by
  have hm0 : 0 ≤ m := hk.nn
  show Kpi ka kb m (m_place σ x1)
  unfold m_place
  refine jn_pred (fun z2 => True) (fun z2 h2 => ?_) ?_
  · refine ite_pred (fun c52 => ?_) (fun c52 => ?_)
    · refine lt_pred (fun z56 e56 => ?_)
      have q56 : Kp ka kb m z56.2 := by rw [e56]; exact Kp.w (kp_m_next σ hk (by omega)) (by omega)
      exact Kp.w q56 (by omega)
    · refine ite_pred (fun c62 => ?_) (fun c62 => ?_)
      · exact Kp.w hk (by omega)
      · refine lt_pred (fun v72 e72 => ?_)
        refine jn_pred (fun z76 => True) (fun z76 h76 => ?_) ?_
        · refine lt_pred (fun s113 e113 => ?_)
          have q113 : Kp ka kb m s113 := by rw [e113]; exact Kp.w (kp_m_setPointer σ z2 (v72 + z76) hk (by omega)) (by omega)
          refine jn_pred (fun z119 => True) (fun z119 h119 => ?_) ?_
          · exact Kp.w q113 (by omega)
          · refine ite_pred (fun c119 => ?_) (fun c119 => ?_)
            · exact app_i trivial
            · exact app_i trivial
        · refine ite_pred (fun c76 => ?_) (fun c76 => ?_)
          · exact app_i trivial
          · refine ite_pred (fun c85 => ?_) (fun c85 => ?_)
            · exact app_i trivial
            · exact app_i trivial
  · refine ite_pred (fun c2 => ?_) (fun c2 => ?_)
    · exact app_i trivial
    · refine ite_pred (fun c18 => ?_) (fun c18 => ?_)
      · exact app_i trivial
      · refine ite_pred (fun c35 => ?_) (fun c35 => ?_)
        · exact app_i trivial
        · exact app_i trivial

def m_flashByte (σ : Sg) (x1 : Int32) : Int32 × Sg :=
  if (0 < (σ 0 26)) ∧ ((((σ 1 87) >>> (1 : Int32)) &&& 15) = 4) then
    lt (sst σ 0 26 0) fun s25 =>
    lt (sst s25 1 87 ((s25 1 87) &&& 224)) fun s40 =>
    lt ((
      if x1 = 1 then
        ((s40 0 28) ||| 240)
      else
        if x1 = 0 then
          ((s40 0 29) ||| 254)
        else
          255) : Int32) fun z43 =>
    (z43, s40)
  else
    lt (((x1 >>> (1 : Int32)) &&& 2047) : Int32) fun v83 =>
    lt ((
      if v83 < 1536 then
        0
      else
        1) : Int32) fun z88 =>
    lt ((
      if (σ 0 36) < 1536 then
        0
      else
        1) : Int32) fun z105 =>
    if z88 = z105 then
      lt ((
        if ((x1) - (x1) / (2) * (2)) = 0 then
          ((m_code σ v83) &&& 255)
        else
          ((m_code σ v83) >>> (8 : Int32))) : Int32) fun z142 =>
      (z142, σ)
    else
      lt ((
        if z88 = 0 then
          1
        else
          3) : Int32) fun z121 =>
      if (((σ 0 28) >>> (z121 &&& 31)) &&& 1) = 0 then
        (255, σ)
      else
        lt ((
          if ((x1) - (x1) / (2) * (2)) = 0 then
            ((m_code σ v83) &&& 255)
          else
            ((m_code σ v83) >>> (8 : Int32))) : Int32) fun z142_1 =>
        (z142_1, σ)
set_option maxHeartbeats 4000000 in
theorem ok_m_flashByte (σ : Sg) (x1 : Int32) (ok : XOK σ) : (Pri XOK 0 255) (m_flashByte σ x1) := by
  unfold m_flashByte
  refine ite_pred (fun c4 => ?_) (fun c4 => ?_)
  · refine lt_pred (fun s25 e25 => ?_)
    have k25 : XOK s25 := by rw [e25]; exact xst_f0_26 ok
    refine lt_pred (fun s40 e40 => ?_)
    have k40 : XOK s40 := by rw [e40]; exact xst_1 k25 (rg_w (rg_and_r (rg_w (lo2 := 0) rl_224 (by decide) (Int.le_refl _))) (by decide) (by decide))
    refine jn_pred (fun z43 => rg 0 255 z43) (fun z43 h43 => ?_) ?_
    · exact ⟨k40, h43⟩
    · refine ite_pred (fun c43 => ?_) (fun c43 => ?_)
      · exact app_i (rg_or 8 (xr0_28 k40) (rg_w (lo2 := 0) rl_240 (by decide) (Int.le_refl _)) (by decide) (by decide) (by decide))
      · refine ite_pred (fun c58 => ?_) (fun c58 => ?_)
        · exact app_i (rg_or 8 (xr0_29 k40) (rg_w (lo2 := 0) rl_254 (by decide) (Int.le_refl _)) (by decide) (by decide) (by decide))
        · exact app_i (rg_w rl_255 (by decide) (by decide))
  · refine lt_pred (fun v83 e83 => ?_)
    have f83 : rg 0 2047 v83 := by rw [e83]; exact (rg_and_r (rg_w (lo2 := 0) rl_2047 (by decide) (Int.le_refl _)))
    refine jn_pred (fun z88 => rg 0 1 z88) (fun z88 h88 => ?_) ?_
    · refine jn_pred (fun z105 => rg 0 1 z105) (fun z105 h105 => ?_) ?_
      · refine ite_pred (fun c113 => ?_) (fun c113 => ?_)
        · refine jn_pred (fun z142 => rg 0 255 z142) (fun z142 h142 => ?_) ?_
          · exact ⟨ok, h142⟩
          · refine ite_pred (fun c142 => ?_) (fun c142 => ?_)
            · exact app_i (rg_and_r (rg_w (lo2 := 0) rl_255 (by decide) (Int.le_refl _)))
            · exact app_i (rg_shr 8 (by decide +kernel) (ok_m_code σ v83 ok))
        · refine jn_pred (fun z121 => rg 1 3 z121) (fun z121 h121 => ?_) ?_
          · refine ite_pred (fun c132 => ?_) (fun c132 => ?_)
            · exact ⟨ok, (rg_w rl_255 (by decide) (by decide))⟩
            · refine jn_pred (fun z142_1 => rg 0 255 z142_1) (fun z142_1 h142_1 => ?_) ?_
              · exact ⟨ok, h142_1⟩
              · refine ite_pred (fun c142_1 => ?_) (fun c142_1 => ?_)
                · exact app_i (rg_and_r (rg_w (lo2 := 0) rl_255 (by decide) (Int.le_refl _)))
                · exact app_i (rg_shr 8 (by decide +kernel) (ok_m_code σ v83 ok))
          · refine ite_pred (fun c121 => ?_) (fun c121 => ?_)
            · exact app_i (rg_w rl_1 (by decide) (by decide))
            · exact app_i (rg_w rl_3 (by decide) (by decide))
      · refine ite_pred (fun c105 => ?_) (fun c105 => ?_)
        · exact app_i (rg_w rl_0 (by decide) (by decide))
        · exact app_i (rg_w rl_1 (by decide) (by decide))
    · refine ite_pred (fun c88 => ?_) (fun c88 => ?_)
      · exact app_i (rg_w rl_0 (by decide) (by decide))
      · exact app_i (rg_w rl_1 (by decide) (by decide))

set_option maxHeartbeats 4000000 in
theorem kp_m_flashByte (σ : Sg) (x1 : Int32) {ka kb : Int32} {m : Int} (hk : Kp ka kb m σ) (hm : m ≤ 1500280000) : Kp ka kb m (m_flashByte σ x1).2 := by
  have hm0 : 0 ≤ m := hk.nn
  show Kpi ka kb m (m_flashByte σ x1)
  unfold m_flashByte
  refine ite_pred (fun c4 => ?_) (fun c4 => ?_)
  · refine lt_pred (fun s25 e25 => ?_)
    have q25 : Kp ka kb m s25 := by rw [e25]; exact Kp.same hk rfl rfl rfl
    refine lt_pred (fun s40 e40 => ?_)
    have q40 : Kp ka kb m s40 := by rw [e40]; exact Kp.same q25 rfl rfl rfl
    refine jn_pred (fun z43 => True) (fun z43 h43 => ?_) ?_
    · exact Kp.w q40 (by omega)
    · refine ite_pred (fun c43 => ?_) (fun c43 => ?_)
      · exact app_i trivial
      · refine ite_pred (fun c58 => ?_) (fun c58 => ?_)
        · exact app_i trivial
        · exact app_i trivial
  · refine lt_pred (fun v83 e83 => ?_)
    refine jn_pred (fun z88 => True) (fun z88 h88 => ?_) ?_
    · refine jn_pred (fun z105 => True) (fun z105 h105 => ?_) ?_
      · refine ite_pred (fun c113 => ?_) (fun c113 => ?_)
        · refine jn_pred (fun z142 => True) (fun z142 h142 => ?_) ?_
          · exact Kp.w hk (by omega)
          · refine ite_pred (fun c142 => ?_) (fun c142 => ?_)
            · exact app_i trivial
            · exact app_i trivial
        · refine jn_pred (fun z121 => True) (fun z121 h121 => ?_) ?_
          · refine ite_pred (fun c132 => ?_) (fun c132 => ?_)
            · exact Kp.w hk (by omega)
            · refine jn_pred (fun z142_1 => True) (fun z142_1 h142_1 => ?_) ?_
              · exact Kp.w hk (by omega)
              · refine ite_pred (fun c142_1 => ?_) (fun c142_1 => ?_)
                · exact app_i trivial
                · exact app_i trivial
          · refine ite_pred (fun c121 => ?_) (fun c121 => ?_)
            · exact app_i trivial
            · exact app_i trivial
      · refine ite_pred (fun c105 => ?_) (fun c105 => ?_)
        · exact app_i trivial
        · exact app_i trivial
    · refine ite_pred (fun c88 => ?_) (fun c88 => ?_)
      · exact app_i trivial
      · exact app_i trivial

def m_loads (σ : Sg) (x1 : Int32) : Int32 × Sg :=
  lt (((x1 >>> (4 : Int32)) &&& 31) : Int32) fun v6 =>
  lt ((x1 &&& 15) : Int32) fun v11 =>
  if (v11 = 4) ∨ (v11 = 5) then
    lt ((m_pointer σ 30) : Int32) fun v28 =>
    lt (m_flashByte σ v28) fun z33 =>
    lt ((
      if v11 = 5 then
        lt (m_setPointer z33.2 30 (v28 + 1)) fun s50 =>
        s50
      else
        z33.2) : Sg) fun z40 =>
    lt (sst z40 1 (v6).toNatClampNeg z33.1) fun s60 =>
    (3, s60)
  else
    if v11 = 15 then
      lt (m_pop σ) fun z75 =>
      lt (sst z75.2 1 (v6).toNatClampNeg z75.1) fun s78 =>
      (2, s78)
    else
      lt (m_place σ v11) fun z83 =>
      if z83.1 = (-1) then
        (1, z83.2)
      else
        lt (m_load z83.2 z83.1) fun z104 =>
        lt (sst z104.2 1 (v6).toNatClampNeg z104.1) fun s107 =>
        (2, s107)
set_option maxHeartbeats 4000000 in
theorem ok_m_loads (σ : Sg) (x1 : Int32) (ok : XOK σ) : (Pri XOK 1 3) (m_loads σ x1) := by
  unfold m_loads
  refine lt_pred (fun v6 e6 => ?_)
  have f6 : rg 0 31 v6 := by rw [e6]; exact (rg_and_r (rg_w (lo2 := 0) rl_31 (by decide) (Int.le_refl _)))
  refine lt_pred (fun v11 e11 => ?_)
  have f11 : rg 0 15 v11 := by rw [e11]; exact (rg_and_r (rg_w (lo2 := 0) rl_15 (by decide) (Int.le_refl _)))
  refine ite_pred (fun c14 => ?_) (fun c14 => ?_)
  · refine lt_pred (fun v28 e28 => ?_)
    have f28 : rg 0 65535 v28 := by rw [e28]; exact (ok_m_pointer σ 30 ok (rg_w rl_30 (by decide) (by decide)))
    refine lt_pred (fun z33 e33 => ?_)
    have k33 : XOK z33.2 ∧ rg 0 255 z33.1 := by rw [e33]; exact ok_m_flashByte σ v28 ok
    refine jn_pred (fun z40 => XOK z40) (fun z40 h40 => ?_) ?_
    · refine lt_pred (fun s60 e60 => ?_)
      have k60 : XOK s60 := by rw [e60]; exact xst_1 h40 k33.2
      exact ⟨k60, (rg_w rl_3 (by decide) (by decide))⟩
    · refine ite_pred (fun c40 => ?_) (fun c40 => ?_)
      · refine lt_pred (fun s50 e50 => ?_)
        have k50 : XOK s50 := by rw [e50]; exact ok_m_setPointer z33.2 30 (v28 + 1) k33.1 (rg_w rl_30 (by decide) (by decide))
        exact app_i k50
      · exact app_i k33.1
  · refine ite_pred (fun c66 => ?_) (fun c66 => ?_)
    · refine lt_pred (fun z75 e75 => ?_)
      have k75 : XOK z75.2 ∧ rg 0 255 z75.1 := by rw [e75]; exact ok_m_pop σ ok
      refine lt_pred (fun s78 e78 => ?_)
      have k78 : XOK s78 := by rw [e78]; exact xst_1 k75.1 k75.2
      exact ⟨k78, (rg_w rl_2 (by decide) (by decide))⟩
    · refine lt_pred (fun z83 e83 => ?_)
      have k83 : XOK z83.2 ∧ rg (-1) 65535 z83.1 := by rw [e83]; exact ok_m_place σ v11 ok
      refine ite_pred (fun c91 => ?_) (fun c91 => ?_)
      · exact ⟨k83.1, (rg_w rl_1 (by decide) (by decide))⟩
      · refine lt_pred (fun z104 e104 => ?_)
        have k104 : XOK z104.2 ∧ rg 0 255 z104.1 := by rw [e104]; exact ok_m_load z83.2 z83.1 k83.1 (rg_ne_lo k83.2 c91 (by decide +kernel))
        refine lt_pred (fun s107 e107 => ?_)
        have k107 : XOK s107 := by rw [e107]; exact xst_1 k104.1 k104.2
        exact ⟨k107, (rg_w rl_2 (by decide) (by decide))⟩

set_option maxHeartbeats 4000000 in
theorem kp_m_loads (σ : Sg) (x1 : Int32) {ka kb : Int32} {m : Int} (hk : Kp ka kb m σ) (hm : m ≤ 1500260000) : Kp ka kb m (m_loads σ x1).2 := by
  have hm0 : 0 ≤ m := hk.nn
  show Kpi ka kb m (m_loads σ x1)
  unfold m_loads
  refine lt_pred (fun v6 e6 => ?_)
  refine lt_pred (fun v11 e11 => ?_)
  refine ite_pred (fun c14 => ?_) (fun c14 => ?_)
  · refine lt_pred (fun v28 e28 => ?_)
    refine lt_pred (fun z33 e33 => ?_)
    have q33 : Kp ka kb m z33.2 := by rw [e33]; exact Kp.w (kp_m_flashByte σ v28 hk (by omega)) (by omega)
    refine jn_pred (fun z40 => Kp ka kb m z40) (fun z40 h40 => ?_) ?_
    · refine lt_pred (fun s60 e60 => ?_)
      have q60 : Kp ka kb m s60 := by rw [e60]; exact Kp.same h40 rfl rfl rfl
      exact Kp.w q60 (by omega)
    · refine ite_pred (fun c40 => ?_) (fun c40 => ?_)
      · refine lt_pred (fun s50 e50 => ?_)
        have q50 : Kp ka kb m s50 := by rw [e50]; exact Kp.w (kp_m_setPointer z33.2 30 (v28 + 1) q33 (by omega)) (by omega)
        exact app_i (Kp.w q50 (by omega))
      · exact app_i (Kp.w q33 (by omega))
  · refine ite_pred (fun c66 => ?_) (fun c66 => ?_)
    · refine lt_pred (fun z75 e75 => ?_)
      have q75 : Kp ka kb m z75.2 := by rw [e75]; exact Kp.w (kp_m_pop σ hk (by omega)) (by omega)
      refine lt_pred (fun s78 e78 => ?_)
      have q78 : Kp ka kb m s78 := by rw [e78]; exact Kp.same q75 rfl rfl rfl
      exact Kp.w q78 (by omega)
    · refine lt_pred (fun z83 e83 => ?_)
      have q83 : Kp ka kb m z83.2 := by rw [e83]; exact Kp.w (kp_m_place σ v11 hk (by omega)) (by omega)
      refine ite_pred (fun c91 => ?_) (fun c91 => ?_)
      · exact Kp.w q83 (by omega)
      · refine lt_pred (fun z104 e104 => ?_)
        have q104 : Kp ka kb m z104.2 := by rw [e104]; exact Kp.w (kp_m_load z83.2 z83.1 q83 (by omega)) (by omega)
        refine lt_pred (fun s107 e107 => ?_)
        have q107 : Kp ka kb m s107 := by rw [e107]; exact Kp.same q104 rfl rfl rfl
        exact Kp.w q107 (by omega)

def m_stores (σ : Sg) (x1 : Int32) : Int32 × Sg :=
  lt ((σ 1 (((x1 >>> (4 : Int32)) &&& 31)).toNatClampNeg) : Int32) fun v11 =>
  lt ((x1 &&& 15) : Int32) fun v16 =>
  if v16 = 15 then
    lt (m_push σ v11) fun s25 =>
    (2, s25)
  else
    lt (m_place σ v16) fun z32 =>
    if z32.1 = (-1) then
      (1, z32.2)
    else
      lt (m_store z32.2 z32.1 v11) fun s49 =>
      (2, s49)
set_option maxHeartbeats 4000000 in
theorem ok_m_stores (σ : Sg) (x1 : Int32) (ok : XOK σ) : (Pri XOK 1 2) (m_stores σ x1) := by
  unfold m_stores
  refine lt_pred (fun v11 e11 => ?_)
  have f11 : rg 0 255 v11 := by rw [e11]; exact (xr_1 ok _)
  refine lt_pred (fun v16 e16 => ?_)
  have f16 : rg 0 15 v16 := by rw [e16]; exact (rg_and_r (rg_w (lo2 := 0) rl_15 (by decide) (Int.le_refl _)))
  refine ite_pred (fun c20 => ?_) (fun c20 => ?_)
  · refine lt_pred (fun s25 e25 => ?_)
    have k25 : XOK s25 := by rw [e25]; exact ok_m_push σ v11 ok f11
    exact ⟨k25, (rg_w rl_2 (by decide) (by decide))⟩
  · refine lt_pred (fun z32 e32 => ?_)
    have k32 : XOK z32.2 ∧ rg (-1) 65535 z32.1 := by rw [e32]; exact ok_m_place σ v16 ok
    refine ite_pred (fun c40 => ?_) (fun c40 => ?_)
    · exact ⟨k32.1, (rg_w rl_1 (by decide) (by decide))⟩
    · refine lt_pred (fun s49 e49 => ?_)
      have k49 : XOK s49 := by rw [e49]; exact ok_m_store z32.2 z32.1 v11 k32.1 (rg_ne_lo k32.2 c40 (by decide +kernel)) f11
      exact ⟨k49, (rg_w rl_2 (by decide) (by decide))⟩

set_option maxHeartbeats 4000000 in
theorem kp_m_stores (σ : Sg) (x1 : Int32) {ka kb : Int32} {m : Int} (hk : Kp ka kb m σ) (hm : m ≤ 1500250000) : Kp ka kb (m + 4) (m_stores σ x1).2 := by
  have hm0 : 0 ≤ m := hk.nn
  show Kpi ka kb (m + 4) (m_stores σ x1)
  unfold m_stores
  refine lt_pred (fun v11 e11 => ?_)
  refine lt_pred (fun v16 e16 => ?_)
  refine ite_pred (fun c20 => ?_) (fun c20 => ?_)
  · refine lt_pred (fun s25 e25 => ?_)
    have q25 : Kp ka kb (m + 4) s25 := by rw [e25]; exact Kp.w (kp_m_push σ v11 hk (by omega)) (by omega)
    exact Kp.w q25 (by omega)
  · refine lt_pred (fun z32 e32 => ?_)
    have q32 : Kp ka kb m z32.2 := by rw [e32]; exact Kp.w (kp_m_place σ v16 hk (by omega)) (by omega)
    refine ite_pred (fun c40 => ?_) (fun c40 => ?_)
    · exact Kp.w q32 (by omega)
    · refine lt_pred (fun s49 e49 => ?_)
      have q49 : Kp ka kb (m + 4) s49 := by rw [e49]; exact Kp.w (kp_m_store z32.2 z32.1 v11 q32 (by omega)) (by omega)
      exact Kp.w q49 (by omega)

def m_shifted (σ : Sg) (x1 : Int32) (x2 : Int32) (x3 : Int32) : Int32 × Sg :=
  lt ((
    if (x1 &&& 15) = 5 then
      (x3 &&& 128)
    else
      if (x1 &&& 15) = 6 then
        0
      else
        ((m_carry σ) <<< (7 : Int32))) : Int32) fun z5 =>
  lt (((x3 >>> (1 : Int32)) ||| z5) : Int32) fun v44 =>
  lt ((
    if (x3 &&& 1) = 1 then
      1
    else
      0) : Int32) fun z52 =>
  lt (m_setFlag σ 0 z52) fun s60 =>
  lt ((
    if v44 < 128 then
      0
    else
      1) : Int32) fun z70 =>
  lt ((
    if z70 = (m_flag s60 0) then
      0
    else
      1) : Int32) fun z83 =>
  lt (m_setFlag s60 3 z83) fun s91 =>
  lt (m_zero s91 v44) fun s97 =>
  lt (sst s97 1 (x2).toNatClampNeg v44) fun s107 =>
  (1, s107)
set_option maxHeartbeats 4000000 in
theorem ok_m_shifted (σ : Sg) (x1 : Int32) (x2 : Int32) (x3 : Int32) (ok : XOK σ) (hx2 : rg 0 31 x2) (hx3 : rg 0 255 x3) : (Pri XOK 1 1) (m_shifted σ x1 x2 x3) := by
  unfold m_shifted
  refine jn_pred (fun z5 => rg 0 128 z5) (fun z5 h5 => ?_) ?_
  · refine lt_pred (fun v44 e44 => ?_)
    have f44 : rg 0 255 v44 := by rw [e44]; exact (rg_or 8 (rg_shr 1 (by decide +kernel) hx3) h5 (by decide) (by decide) (by decide))
    refine jn_pred (fun z52 => rg 0 1 z52) (fun z52 h52 => ?_) ?_
    · refine lt_pred (fun s60 e60 => ?_)
      have k60 : XOK s60 := by rw [e60]; exact ok_m_setFlag σ 0 z52 ok (rg_w rl_0 (by decide) (by decide)) h52
      refine jn_pred (fun z70 => rg 0 1 z70) (fun z70 h70 => ?_) ?_
      · refine jn_pred (fun z83 => rg 0 1 z83) (fun z83 h83 => ?_) ?_
        · refine lt_pred (fun s91 e91 => ?_)
          have k91 : XOK s91 := by rw [e91]; exact ok_m_setFlag s60 3 z83 k60 (rg_w rl_3 (by decide) (by decide)) h83
          refine lt_pred (fun s97 e97 => ?_)
          have k97 : XOK s97 := by rw [e97]; exact ok_m_zero s91 v44 k91
          refine lt_pred (fun s107 e107 => ?_)
          have k107 : XOK s107 := by rw [e107]; exact xst_1 k97 f44
          exact ⟨k107, rl_1⟩
        · refine ite_pred (fun c83 => ?_) (fun c83 => ?_)
          · exact app_i (rg_w rl_0 (by decide) (by decide))
          · exact app_i (rg_w rl_1 (by decide) (by decide))
      · refine ite_pred (fun c70 => ?_) (fun c70 => ?_)
        · exact app_i (rg_w rl_0 (by decide) (by decide))
        · exact app_i (rg_w rl_1 (by decide) (by decide))
    · refine ite_pred (fun c52 => ?_) (fun c52 => ?_)
      · exact app_i (rg_w rl_1 (by decide) (by decide))
      · exact app_i (rg_w rl_0 (by decide) (by decide))
  · refine ite_pred (fun c5 => ?_) (fun c5 => ?_)
    · exact app_i (rg_and_r (rg_w (lo2 := 0) rl_128 (by decide) (Int.le_refl _)))
    · refine ite_pred (fun c22 => ?_) (fun c22 => ?_)
      · exact app_i (rg_w rl_0 (by decide) (by decide))
      · exact app_i (rg_shl 7 (by decide +kernel) (ok_m_carry σ ok) (by decide))

set_option maxHeartbeats 4000000 in
theorem kp_m_shifted (σ : Sg) (x1 : Int32) (x2 : Int32) (x3 : Int32) {ka kb : Int32} {m : Int} (hk : Kp ka kb m σ) (hm : m ≤ 1500270000) : Kp ka kb m (m_shifted σ x1 x2 x3).2 := by
  have hm0 : 0 ≤ m := hk.nn
  show Kpi ka kb m (m_shifted σ x1 x2 x3)
  unfold m_shifted
  refine jn_pred (fun z5 => True) (fun z5 h5 => ?_) ?_
  · refine lt_pred (fun v44 e44 => ?_)
    refine jn_pred (fun z52 => True) (fun z52 h52 => ?_) ?_
    · refine lt_pred (fun s60 e60 => ?_)
      have q60 : Kp ka kb m s60 := by rw [e60]; exact Kp.w (kp_m_setFlag σ 0 z52 hk (by omega)) (by omega)
      refine jn_pred (fun z70 => True) (fun z70 h70 => ?_) ?_
      · refine jn_pred (fun z83 => True) (fun z83 h83 => ?_) ?_
        · refine lt_pred (fun s91 e91 => ?_)
          have q91 : Kp ka kb m s91 := by rw [e91]; exact Kp.w (kp_m_setFlag s60 3 z83 q60 (by omega)) (by omega)
          refine lt_pred (fun s97 e97 => ?_)
          have q97 : Kp ka kb m s97 := by rw [e97]; exact Kp.w (kp_m_zero s91 v44 q91 (by omega)) (by omega)
          refine lt_pred (fun s107 e107 => ?_)
          have q107 : Kp ka kb m s107 := by rw [e107]; exact Kp.same q97 rfl rfl rfl
          exact Kp.w q107 (by omega)
        · refine ite_pred (fun c83 => ?_) (fun c83 => ?_)
          · exact app_i trivial
          · exact app_i trivial
      · refine ite_pred (fun c70 => ?_) (fun c70 => ?_)
        · exact app_i trivial
        · exact app_i trivial
    · refine ite_pred (fun c52 => ?_) (fun c52 => ?_)
      · exact app_i trivial
      · exact app_i trivial
  · refine ite_pred (fun c5 => ?_) (fun c5 => ?_)
    · exact app_i trivial
    · refine ite_pred (fun c22 => ?_) (fun c22 => ?_)
      · exact app_i trivial
      · exact app_i trivial

def m_through (σ : Sg) (x1 : Int32) : Int32 × Sg :=
  if x1 = 37897 then
    lt (sst σ 0 0 ((m_pointer σ 30) &&& 2047)) fun s18 =>
    (2, s18)
  else
    if x1 = 38153 then
      lt (m_pushPlace σ (σ 0 0)) fun s37 =>
      lt (sst s37 0 0 ((m_pointer s37 30) &&& 2047)) fun s51 =>
      (3, s51)
    else
      (1, σ)
set_option maxHeartbeats 4000000 in
theorem ok_m_through (σ : Sg) (x1 : Int32) (ok : XOK σ) : (Pri XOK 1 3) (m_through σ x1) := by
  unfold m_through
  refine ite_pred (fun c4 => ?_) (fun c4 => ?_)
  · refine lt_pred (fun s18 e18 => ?_)
    have k18 : XOK s18 := by rw [e18]; exact xst_0_0 ok (rg_and_r (rg_w (lo2 := 0) rl_2047 (by decide) (Int.le_refl _)))
    exact ⟨k18, (rg_w rl_2 (by decide) (by decide))⟩
  · refine ite_pred (fun c27 => ?_) (fun c27 => ?_)
    · refine lt_pred (fun s37 e37 => ?_)
      have k37 : XOK s37 := by rw [e37]; exact ok_m_pushPlace σ (σ 0 0) ok (xr0_0 ok)
      refine lt_pred (fun s51 e51 => ?_)
      have k51 : XOK s51 := by rw [e51]; exact xst_0_0 k37 (rg_and_r (rg_w (lo2 := 0) rl_2047 (by decide) (Int.le_refl _)))
      exact ⟨k51, (rg_w rl_3 (by decide) (by decide))⟩
    · exact ⟨ok, (rg_w rl_1 (by decide) (by decide))⟩

set_option maxHeartbeats 4000000 in
theorem kp_m_through (σ : Sg) (x1 : Int32) {ka kb : Int32} {m : Int} (hk : Kp ka kb m σ) (hm : m ≤ 1500240000) : Kp ka kb (m + 8) (m_through σ x1).2 := by
  have hm0 : 0 ≤ m := hk.nn
  show Kpi ka kb (m + 8) (m_through σ x1)
  unfold m_through
  refine ite_pred (fun c4 => ?_) (fun c4 => ?_)
  · refine lt_pred (fun s18 e18 => ?_)
    have q18 : Kp ka kb m s18 := by rw [e18]; exact Kp.same hk rfl rfl rfl
    exact Kp.w q18 (by omega)
  · refine ite_pred (fun c27 => ?_) (fun c27 => ?_)
    · refine lt_pred (fun s37 e37 => ?_)
      have q37 : Kp ka kb (m + 8) s37 := by rw [e37]; exact Kp.w (kp_m_pushPlace σ (σ 0 0) hk (by omega)) (by omega)
      refine lt_pred (fun s51 e51 => ?_)
      have q51 : Kp ka kb (m + 8) s51 := by rw [e51]; exact Kp.same q37 rfl rfl rfl
      exact Kp.w q51 (by omega)
    · exact Kp.w hk (by omega)

def m_writes (σ : Sg) (x1 : Int32) (x2 : Int32) : Int32 × Sg :=
  lt ((
    if x1 < 1536 then
      0
    else
      1) : Int32) fun z4 =>
  lt ((
    if z4 = 0 then
      0
    else
      2) : Int32) fun z18 =>
  if (((σ 0 28) >>> (z18 &&& 31)) &&& 1) = 0 then
    (0, σ)
  else
    lt ((iterN 32 0 (fun i37_1 a37_1 =>
      lt ((
        if x2 = 0 then
          if (a37_1 7 ((nI i37_1)).toNatClampNeg) = 0 then
            a37_1
          else
            lt ((x1 + (nI i37_1)) : Int32) fun v80 =>
            lt (sst a37_1 2 (v80).toNatClampNeg ((a37_1 2 (v80).toNatClampNeg) &&& (a37_1 5 ((nI i37_1)).toNatClampNeg))) fun s90 =>
            s90
        else
          lt (sst a37_1 2 ((x1 + (nI i37_1))).toNatClampNeg 65535) fun s58 =>
          s58) : Sg) fun z45 =>
      z45) σ) : Sg) fun z37 =>
    lt ((
      if x2 = 0 then
        lt (m_clearBuffer z37) fun s102 =>
        s102
      else
        z37) : Sg) fun z98 =>
    if z4 = 0 then
      lt (sst z98 1 87 ((z98 1 87) ||| 64)) fun s134 =>
      lt (sst s134 0 27 8000) fun s139 =>
      (1, s139)
    else
      lt (sst z98 0 1 ((z98 0 1) + 8000)) fun s118 =>
      (0, s118)
set_option maxHeartbeats 4000000 in
theorem ok_m_writes (σ : Sg) (x1 : Int32) (x2 : Int32) (ok : XOK σ) (hx1 : rg 0 2016 x1) (hx2 : rg 0 1 x2) : (Pri XOK 0 1) (m_writes σ x1 x2) := by
  unfold m_writes
  refine jn_pred (fun z4 => rg 0 1 z4) (fun z4 h4 => ?_) ?_
  · refine jn_pred (fun z18 => rg 0 2 z18) (fun z18 h18 => ?_) ?_
    · refine ite_pred (fun c29 => ?_) (fun c29 => ?_)
      · exact ⟨ok, (rg_w rl_0 (by decide) (by decide))⟩
      · refine for_pred (N := 32) (fun i a => XOK a) (fun i37_1 a37_1 hi37 ha37 => ?_) (fun z37 hz37 => ?_) 32 0 σ (by omega) ok
        · have fi37 : rg 0 31 (nI i37_1) := rg_of_nI (by omega) (by omega)
          refine jn_pred (fun z45 => XOK z45) (fun z45 h45 => ?_) ?_
          · exact app_i h45
          · refine ite_pred (fun c45 => ?_) (fun c45 => ?_)
            · refine ite_pred (fun c69 => ?_) (fun c69 => ?_)
              · exact app_i ha37
              · refine lt_pred (fun v80 e80 => ?_)
                have f80 : rg 0 2047 v80 := by rw [e80]; exact (rg_add hx1 fi37 (by decide) (by decide))
                refine lt_pred (fun s90 e90 => ?_)
                have k90 : XOK s90 := by rw [e90]; exact xst_2 ha37 (rg_and_l (xr_2 ha37 _))
                exact app_i k90
            · refine lt_pred (fun s58 e58 => ?_)
              have k58 : XOK s58 := by rw [e58]; exact xst_2 ha37 (rg_w rl_65535 (by decide) (by decide))
              exact app_i k58
        · refine jn_pred (fun z98 => XOK z98) (fun z98 h98 => ?_) ?_
          · refine ite_pred (fun c106 => ?_) (fun c106 => ?_)
            · refine lt_pred (fun s134 e134 => ?_)
              have k134 : XOK s134 := by rw [e134]; exact xst_1 h98 (rg_or 8 (xr_1 h98 _) (rg_w (lo2 := 0) rl_64 (by decide) (Int.le_refl _)) (by decide) (by decide) (by decide))
              refine lt_pred (fun s139 e139 => ?_)
              have k139 : XOK s139 := by rw [e139]; exact xst_f0_27 k134
              exact ⟨k139, (rg_w rl_1 (by decide) (by decide))⟩
            · refine lt_pred (fun s118 e118 => ?_)
              have k118 : XOK s118 := by rw [e118]; exact xst_f0_1 h98
              exact ⟨k118, (rg_w rl_0 (by decide) (by decide))⟩
          · refine ite_pred (fun c98 => ?_) (fun c98 => ?_)
            · refine lt_pred (fun s102 e102 => ?_)
              have k102 : XOK s102 := by rw [e102]; exact ok_m_clearBuffer z37 hz37
              exact app_i k102
            · exact app_i hz37
    · refine ite_pred (fun c18 => ?_) (fun c18 => ?_)
      · exact app_i (rg_w rl_0 (by decide) (by decide))
      · exact app_i (rg_w rl_2 (by decide) (by decide))
  · refine ite_pred (fun c4 => ?_) (fun c4 => ?_)
    · exact app_i (rg_w rl_0 (by decide) (by decide))
    · exact app_i (rg_w rl_1 (by decide) (by decide))

set_option maxHeartbeats 4000000 in
theorem kp_m_writes (σ : Sg) (x1 : Int32) (x2 : Int32) {ka kb : Int32} {m : Int} (hk : Kp ka kb m σ) (hm : m ≤ 1500280000) : Kp ka kb (m + 8000) (m_writes σ x1 x2).2 := by
  have hm0 : 0 ≤ m := hk.nn
  show Kpi ka kb (m + 8000) (m_writes σ x1 x2)
  unfold m_writes
  refine jn_pred (fun z4 => True) (fun z4 h4 => ?_) ?_
  · refine jn_pred (fun z18 => True) (fun z18 h18 => ?_) ?_
    · refine ite_pred (fun c29 => ?_) (fun c29 => ?_)
      · exact Kp.w hk (by omega)
      · refine for_pred (N := 32) (fun i a => Kp ka kb m a) (fun i37_1 a37_1 hi37 ha37 => ?_) (fun z37 hz37 => ?_) 32 0 σ (by omega) (Kp.w hk (by omega))
        · refine jn_pred (fun z45 => Kp ka kb m z45) (fun z45 h45 => ?_) ?_
          · exact app_i (Kp.w h45 (by omega))
          · refine ite_pred (fun c45 => ?_) (fun c45 => ?_)
            · refine ite_pred (fun c69 => ?_) (fun c69 => ?_)
              · exact app_i (Kp.w ha37 (by omega))
              · refine lt_pred (fun v80 e80 => ?_)
                refine lt_pred (fun s90 e90 => ?_)
                have q90 : Kp ka kb m s90 := by rw [e90]; exact Kp.same ha37 rfl rfl rfl
                exact app_i (Kp.w q90 (by omega))
            · refine lt_pred (fun s58 e58 => ?_)
              have q58 : Kp ka kb m s58 := by rw [e58]; exact Kp.same ha37 rfl rfl rfl
              exact app_i (Kp.w q58 (by omega))
        · refine jn_pred (fun z98 => Kp ka kb m z98) (fun z98 h98 => ?_) ?_
          · refine ite_pred (fun c106 => ?_) (fun c106 => ?_)
            · refine lt_pred (fun s134 e134 => ?_)
              have q134 : Kp ka kb m s134 := by rw [e134]; exact Kp.same h98 rfl rfl rfl
              refine lt_pred (fun s139 e139 => ?_)
              have q139 : Kp ka kb m s139 := by rw [e139]; exact Kp.same q134 rfl rfl rfl
              exact Kp.w q139 (by omega)
            · refine lt_pred (fun s118 e118 => ?_)
              have q118 : Kp ka kb (m + 8000) s118 := by rw [e118]; exact Kp.add h98 rl_8000 (by omega) (by omega)
              exact Kp.w q118 (by omega)
          · refine ite_pred (fun c98 => ?_) (fun c98 => ?_)
            · refine lt_pred (fun s102 e102 => ?_)
              have q102 : Kp ka kb m s102 := by rw [e102]; exact Kp.w (kp_m_clearBuffer z37 hz37 (by omega)) (by omega)
              exact app_i (Kp.w q102 (by omega))
            · exact app_i (Kp.w hz37 (by omega))
    · refine ite_pred (fun c18 => ?_) (fun c18 => ?_)
      · exact app_i trivial
      · exact app_i trivial
  · refine ite_pred (fun c4 => ?_) (fun c4 => ?_)
    · exact app_i trivial
    · exact app_i trivial

def m_storesFlash (σ : Sg) : Sg :=
  if ((σ 0 36) < 1536) ∨ ((0 < (σ 0 27)) ∨ ((σ 0 26) = 0)) then
    σ
  else
    lt (sst σ 0 26 0) fun s27 =>
    lt ((m_pointer s27 30) : Int32) fun v36 =>
    lt ((((s27 1 87) >>> (1 : Int32)) &&& 15) : Int32) fun v49 =>
    lt (((v36 >>> (6 : Int32)) &&& 63) : Int32) fun v57 =>
    if (v49 = 1) ∨ (v49 = 2) then
      lt ((
        if v49 = 1 then
          1
        else
          0) : Int32) fun z75 =>
      lt (m_writes s27 (32 * v57) z75) fun z83 =>
      if z83.1 = 0 then
        lt (sst z83.2 1 87 ((z83.2 1 87) &&& 224)) fun s195 =>
        s195
      else
        z83.2
    else
      lt ((
        if v49 = 0 then
          lt (((v36 >>> (1 : Int32)) &&& 31) : Int32) fun v100 =>
          lt ((
            if (s27 7 (v100).toNatClampNeg) = 0 then
              lt (sst s27 5 (v100).toNatClampNeg (m_pointer s27 0)) fun s123 =>
              s123
            else
              s27) : Sg) fun z109 =>
          lt (sst z109 7 (v100).toNatClampNeg 1) fun s131 =>
          s131
        else
          if v49 = 8 then
            lt (sst s27 1 87 ((s27 1 87) &&& 191)) fun s153 =>
            lt (m_clearBuffer s153) fun s155 =>
            s155
          else
            if v49 = 4 then
              lt (sst s27 0 28 ((s27 0 28) &&& ((s27 1 0) >>> (2 : Int32)))) fun s180 =>
              s180
            else
              s27) : Sg) fun z91 =>
      lt (sst z91 1 87 ((z91 1 87) &&& 224)) fun s195_1 =>
      s195_1
set_option maxHeartbeats 4000000 in
theorem ok_m_storesFlash (σ : Sg) (ok : XOK σ) : XOK (m_storesFlash σ) := by
  unfold m_storesFlash
  refine ite_pred (fun c7 => ?_) (fun c7 => ?_)
  · exact ok
  · refine lt_pred (fun s27 e27 => ?_)
    have k27 : XOK s27 := by rw [e27]; exact xst_f0_26 ok
    have y36_27 : rg 1536 2047 (s27 0 36) := by rw [e27]; exact (show rg 1536 2047 (σ 0 36) from (rg_nlt_lo (xr0_36 ok) (fun w6 => c7 (Or.inl w6)) rl_1536))
    have y27_27 : rg (-2147483648) 0 (s27 0 27) := by rw [e27]; exact (show rg (-2147483648) 0 (σ 0 27) from (rg_nlt_hi (rg_full (σ 0 27)) (fun w8 => (fun w6 => c7 (Or.inr w6)) (Or.inl w8)) rl_0))
    refine lt_pred (fun v36 e36 => ?_)
    have f36 : rg 0 65535 v36 := by rw [e36]; exact (ok_m_pointer s27 30 k27 (rg_w rl_30 (by decide) (by decide)))
    refine lt_pred (fun v49 e49 => ?_)
    have f49 : rg 0 15 v49 := by rw [e49]; exact (rg_and_r (rg_w (lo2 := 0) rl_15 (by decide) (Int.le_refl _)))
    refine lt_pred (fun v57 e57 => ?_)
    have f57 : rg 0 63 v57 := by rw [e57]; exact (rg_and_r (rg_w (lo2 := 0) rl_63 (by decide) (Int.le_refl _)))
    refine ite_pred (fun c60 => ?_) (fun c60 => ?_)
    · refine jn_pred (fun z75 => rg 0 1 z75) (fun z75 h75 => ?_) ?_
      · refine lt_pred (fun z83 e83 => ?_)
        have k83 : XOK z83.2 ∧ rg 0 1 z83.1 := by rw [e83]; exact ok_m_writes s27 (32 * v57) z75 k27 (rg_mul (rg_w (lo2 := 0) rl_32 (by decide) (Int.le_refl _)) f57 (by decide)) h75
        refine ite_pred (fun c86 => ?_) (fun c86 => ?_)
        · refine lt_pred (fun s195 e195 => ?_)
          have k195 : XOK s195 := by rw [e195]; exact xst_1 k83.1 (rg_w (rg_and_r (rg_w (lo2 := 0) rl_224 (by decide) (Int.le_refl _))) (by decide) (by decide))
          exact k195
        · exact k83.1
      · refine ite_pred (fun c75 => ?_) (fun c75 => ?_)
        · exact app_i (rg_w rl_1 (by decide) (by decide))
        · exact app_i (rg_w rl_0 (by decide) (by decide))
    · refine jn_pred (fun z91 => XOK z91) (fun z91 h91 => ?_) ?_
      · refine lt_pred (fun s195_1 e195_1 => ?_)
        have k195_1 : XOK s195_1 := by rw [e195_1]; exact xst_1 h91 (rg_w (rg_and_r (rg_w (lo2 := 0) rl_224 (by decide) (Int.le_refl _))) (by decide) (by decide))
        exact k195_1
      · refine ite_pred (fun c91 => ?_) (fun c91 => ?_)
        · refine lt_pred (fun v100 e100 => ?_)
          have f100 : rg 0 31 v100 := by rw [e100]; exact (rg_and_r (rg_w (lo2 := 0) rl_31 (by decide) (Int.le_refl _)))
          refine jn_pred (fun z109 => XOK z109 ∧ rg (-2147483648) 0 (z109 0 27) ∧ rg 1536 2047 (z109 0 36)) (fun z109 h109 => ?_) ?_
          · refine lt_pred (fun s131 e131 => ?_)
            have k131 : XOK s131 := by rw [e131]; exact xst_7 h109.1 (rg_w rl_1 (by decide) (by decide))
            have y27_131 : rg (-2147483648) 0 (s131 0 27) := by rw [e131]; exact (show rg (-2147483648) 0 (z109 0 27) from h109.2.1)
            have y36_131 : rg 1536 2047 (s131 0 36) := by rw [e131]; exact (show rg 1536 2047 (z109 0 36) from h109.2.2)
            exact app_i k131
          · refine ite_pred (fun c109 => ?_) (fun c109 => ?_)
            · refine lt_pred (fun s123 e123 => ?_)
              have k123 : XOK s123 := by rw [e123]; exact xst_f5 k27
              have y36_123 : rg 1536 2047 (s123 0 36) := by rw [e123]; exact (show rg 1536 2047 (s27 0 36) from y36_27)
              have y27_123 : rg (-2147483648) 0 (s123 0 27) := by rw [e123]; exact (show rg (-2147483648) 0 (s27 0 27) from y27_27)
              exact app_i ⟨k123, (rg_w y27_123 (by decide) (by decide)), (rg_w y36_123 (by decide) (by decide))⟩
            · exact app_i ⟨k27, (rg_w y27_27 (by decide) (by decide)), (rg_w y36_27 (by decide) (by decide))⟩
        · refine ite_pred (fun c138 => ?_) (fun c138 => ?_)
          · refine lt_pred (fun s153 e153 => ?_)
            have k153 : XOK s153 := by rw [e153]; exact xst_1 k27 (rg_w (rg_and_r (rg_w (lo2 := 0) rl_191 (by decide) (Int.le_refl _))) (by decide) (by decide))
            have y36_153 : rg 1536 2047 (s153 0 36) := by rw [e153]; exact (show rg 1536 2047 (s27 0 36) from y36_27)
            have y27_153 : rg (-2147483648) 0 (s153 0 27) := by rw [e153]; exact (show rg (-2147483648) 0 (s27 0 27) from y27_27)
            refine lt_pred (fun s155 e155 => ?_)
            have k155 : XOK s155 := by rw [e155]; exact ok_m_clearBuffer s153 k153
            exact app_i k155
          · refine ite_pred (fun c163 => ?_) (fun c163 => ?_)
            · refine lt_pred (fun s180 e180 => ?_)
              have k180 : XOK s180 := by rw [e180]; exact xst_0_28 k27 (rg_and_l (xr0_28 k27))
              have y36_180 : rg 1536 2047 (s180 0 36) := by rw [e180]; exact (show rg 1536 2047 (s27 0 36) from y36_27)
              have y27_180 : rg (-2147483648) 0 (s180 0 27) := by rw [e180]; exact (show rg (-2147483648) 0 (s27 0 27) from y27_27)
              exact app_i k180
            · exact app_i k27

set_option maxHeartbeats 4000000 in
theorem kp_m_storesFlash (σ : Sg) {ka kb : Int32} {m : Int} (hk : Kp ka kb m σ) (hm : m ≤ 1500270000) : Kp ka kb (m + 8000) (m_storesFlash σ) := by
  have hm0 : 0 ≤ m := hk.nn
  show Kp ka kb (m + 8000) (m_storesFlash σ)
  unfold m_storesFlash
  refine ite_pred (fun c7 => ?_) (fun c7 => ?_)
  · exact Kp.w hk (by omega)
  · refine lt_pred (fun s27 e27 => ?_)
    have q27 : Kp ka kb m s27 := by rw [e27]; exact Kp.same hk rfl rfl rfl
    refine lt_pred (fun v36 e36 => ?_)
    refine lt_pred (fun v49 e49 => ?_)
    refine lt_pred (fun v57 e57 => ?_)
    refine ite_pred (fun c60 => ?_) (fun c60 => ?_)
    · refine jn_pred (fun z75 => True) (fun z75 h75 => ?_) ?_
      · refine lt_pred (fun z83 e83 => ?_)
        have q83 : Kp ka kb (m + 8000) z83.2 := by rw [e83]; exact Kp.w (kp_m_writes s27 (32 * v57) z75 q27 (by omega)) (by omega)
        refine ite_pred (fun c86 => ?_) (fun c86 => ?_)
        · refine lt_pred (fun s195 e195 => ?_)
          have q195 : Kp ka kb (m + 8000) s195 := by rw [e195]; exact Kp.same q83 rfl rfl rfl
          exact Kp.w q195 (by omega)
        · exact Kp.w q83 (by omega)
      · refine ite_pred (fun c75 => ?_) (fun c75 => ?_)
        · exact app_i trivial
        · exact app_i trivial
    · refine jn_pred (fun z91 => Kp ka kb m z91) (fun z91 h91 => ?_) ?_
      · refine lt_pred (fun s195_1 e195_1 => ?_)
        have q195_1 : Kp ka kb m s195_1 := by rw [e195_1]; exact Kp.same h91 rfl rfl rfl
        exact Kp.w q195_1 (by omega)
      · refine ite_pred (fun c91 => ?_) (fun c91 => ?_)
        · refine lt_pred (fun v100 e100 => ?_)
          refine jn_pred (fun z109 => Kp ka kb m z109) (fun z109 h109 => ?_) ?_
          · refine lt_pred (fun s131 e131 => ?_)
            have q131 : Kp ka kb m s131 := by rw [e131]; exact Kp.same h109 rfl rfl rfl
            exact app_i (Kp.w q131 (by omega))
          · refine ite_pred (fun c109 => ?_) (fun c109 => ?_)
            · refine lt_pred (fun s123 e123 => ?_)
              have q123 : Kp ka kb m s123 := by rw [e123]; exact Kp.same q27 rfl rfl rfl
              exact app_i (Kp.w q123 (by omega))
            · exact app_i (Kp.w q27 (by omega))
        · refine ite_pred (fun c138 => ?_) (fun c138 => ?_)
          · refine lt_pred (fun s153 e153 => ?_)
            have q153 : Kp ka kb m s153 := by rw [e153]; exact Kp.same q27 rfl rfl rfl
            refine lt_pred (fun s155 e155 => ?_)
            have q155 : Kp ka kb m s155 := by rw [e155]; exact Kp.w (kp_m_clearBuffer s153 q153 (by omega)) (by omega)
            exact app_i (Kp.w q155 (by omega))
          · refine ite_pred (fun c163 => ?_) (fun c163 => ?_)
            · refine lt_pred (fun s180 e180 => ?_)
              have q180 : Kp ka kb m s180 := by rw [e180]; exact Kp.same q27 rfl rfl rfl
              exact app_i (Kp.w q180 (by omega))
            · exact app_i (Kp.w q27 (by omega))

def m_others (σ : Sg) (x1 : Int32) : Int32 × Sg :=
  if x1 < 38144 then
    lt ((
      if (x1 &&& 128) = 0 then
        1
      else
        0) : Int32) fun z19 =>
    lt (m_setFlag σ ((x1 >>> (4 : Int32)) &&& 7) z19) fun s27 =>
    lt ((
      if x1 = 38008 then
        1
      else
        0) : Int32) fun z35 =>
    lt (sst s27 0 7 z35) fun s43 =>
    (1, s43)
  else
    lt (((x1 >>> (4 : Int32)) &&& 15) : Int32) fun v54 =>
    if v54 = 0 then
      lt (m_popPlace σ) fun z130 =>
      lt (sst z130.2 0 0 z130.1) fun s133 =>
      (4, s133)
    else
      if v54 = 1 then
        lt (m_popPlace σ) fun z140 =>
        lt (sst z140.2 0 0 z140.1) fun s143 =>
        lt (m_setFlag s143 7 1) fun s150 =>
        lt (sst s150 0 7 1) fun s155 =>
        (4, s155)
      else
        if v54 = 8 then
          lt (sst σ 0 6 1) fun s162 =>
          (1, s162)
        else
          if v54 = 10 then
            lt (sst σ 0 24 0) fun s169 =>
            (1, s169)
          else
            if v54 = 12 then
              lt (m_flashByte σ (m_pointer σ 30)) fun z186 =>
              lt (sst z186.2 1 0 z186.1) fun s189 =>
              (3, s189)
            else
              if v54 = 14 then
                lt (m_storesFlash σ) fun s193 =>
                (1, s193)
              else
                (1, σ)
set_option maxHeartbeats 4000000 in
theorem ok_m_others (σ : Sg) (x1 : Int32) (ok : XOK σ) : (Pri XOK 1 4) (m_others σ x1) := by
  unfold m_others
  refine ite_pred (fun c4 => ?_) (fun c4 => ?_)
  · refine jn_pred (fun z19 => rg 0 1 z19) (fun z19 h19 => ?_) ?_
    · refine lt_pred (fun s27 e27 => ?_)
      have k27 : XOK s27 := by rw [e27]; exact ok_m_setFlag σ ((x1 >>> (4 : Int32)) &&& 7) z19 ok (rg_and_r (rg_w (lo2 := 0) rl_7 (by decide) (Int.le_refl _))) h19
      refine jn_pred (fun z35 => rg 0 1 z35) (fun z35 h35 => ?_) ?_
      · refine lt_pred (fun s43 e43 => ?_)
        have k43 : XOK s43 := by rw [e43]; exact xst_0_7 k27 h35
        exact ⟨k43, (rg_w rl_1 (by decide) (by decide))⟩
      · refine ite_pred (fun c35 => ?_) (fun c35 => ?_)
        · exact app_i (rg_w rl_1 (by decide) (by decide))
        · exact app_i (rg_w rl_0 (by decide) (by decide))
    · refine ite_pred (fun c19 => ?_) (fun c19 => ?_)
      · exact app_i (rg_w rl_1 (by decide) (by decide))
      · exact app_i (rg_w rl_0 (by decide) (by decide))
  · refine lt_pred (fun v54 e54 => ?_)
    have f54 : rg 0 15 v54 := by rw [e54]; exact (rg_and_r (rg_w (lo2 := 0) rl_15 (by decide) (Int.le_refl _)))
    refine ite_pred (fun c54_0 => ?_) (fun c54_0 => ?_)
    · refine lt_pred (fun z130 e130 => ?_)
      have k130 : XOK z130.2 ∧ rg 0 2047 z130.1 := by rw [e130]; exact ok_m_popPlace σ ok
      refine lt_pred (fun s133 e133 => ?_)
      have k133 : XOK s133 := by rw [e133]; exact xst_0_0 k130.1 k130.2
      exact ⟨k133, (rg_w rl_4 (by decide) (by decide))⟩
    · refine ite_pred (fun c54_1 => ?_) (fun c54_1 => ?_)
      · refine lt_pred (fun z140 e140 => ?_)
        have k140 : XOK z140.2 ∧ rg 0 2047 z140.1 := by rw [e140]; exact ok_m_popPlace σ ok
        refine lt_pred (fun s143 e143 => ?_)
        have k143 : XOK s143 := by rw [e143]; exact xst_0_0 k140.1 k140.2
        refine lt_pred (fun s150 e150 => ?_)
        have k150 : XOK s150 := by rw [e150]; exact ok_m_setFlag s143 7 1 k143 (rg_w rl_7 (by decide) (by decide)) (rg_w rl_1 (by decide) (by decide))
        refine lt_pred (fun s155 e155 => ?_)
        have k155 : XOK s155 := by rw [e155]; exact xst_0_7 k150 (rg_w rl_1 (by decide) (by decide))
        exact ⟨k155, (rg_w rl_4 (by decide) (by decide))⟩
      · refine ite_pred (fun c54_8 => ?_) (fun c54_8 => ?_)
        · refine lt_pred (fun s162 e162 => ?_)
          have k162 : XOK s162 := by rw [e162]; exact xst_0_6 ok (rg_w rl_1 (by decide) (by decide))
          exact ⟨k162, (rg_w rl_1 (by decide) (by decide))⟩
        · refine ite_pred (fun c54_10 => ?_) (fun c54_10 => ?_)
          · refine lt_pred (fun s169 e169 => ?_)
            have k169 : XOK s169 := by rw [e169]; exact xst_f0_24 ok
            exact ⟨k169, (rg_w rl_1 (by decide) (by decide))⟩
          · refine ite_pred (fun c54_12 => ?_) (fun c54_12 => ?_)
            · refine lt_pred (fun z186 e186 => ?_)
              have k186 : XOK z186.2 ∧ rg 0 255 z186.1 := by rw [e186]; exact ok_m_flashByte σ (m_pointer σ 30) ok
              refine lt_pred (fun s189 e189 => ?_)
              have k189 : XOK s189 := by rw [e189]; exact xst_1 k186.1 k186.2
              exact ⟨k189, (rg_w rl_3 (by decide) (by decide))⟩
            · refine ite_pred (fun c54_14 => ?_) (fun c54_14 => ?_)
              · refine lt_pred (fun s193 e193 => ?_)
                have k193 : XOK s193 := by rw [e193]; exact ok_m_storesFlash σ ok
                exact ⟨k193, (rg_w rl_1 (by decide) (by decide))⟩
              · exact ⟨ok, (rg_w rl_1 (by decide) (by decide))⟩

set_option maxHeartbeats 4000000 in
theorem kp_m_others (σ : Sg) (x1 : Int32) {ka kb : Int32} {m : Int} (hk : Kp ka kb m σ) (hm : m ≤ 1500250000) : Kp ka kb (m + 8000) (m_others σ x1).2 := by
  have hm0 : 0 ≤ m := hk.nn
  show Kpi ka kb (m + 8000) (m_others σ x1)
  unfold m_others
  refine ite_pred (fun c4 => ?_) (fun c4 => ?_)
  · refine jn_pred (fun z19 => True) (fun z19 h19 => ?_) ?_
    · refine lt_pred (fun s27 e27 => ?_)
      have q27 : Kp ka kb m s27 := by rw [e27]; exact Kp.w (kp_m_setFlag σ ((x1 >>> (4 : Int32)) &&& 7) z19 hk (by omega)) (by omega)
      refine jn_pred (fun z35 => True) (fun z35 h35 => ?_) ?_
      · refine lt_pred (fun s43 e43 => ?_)
        have q43 : Kp ka kb m s43 := by rw [e43]; exact Kp.same q27 rfl rfl rfl
        exact Kp.w q43 (by omega)
      · refine ite_pred (fun c35 => ?_) (fun c35 => ?_)
        · exact app_i trivial
        · exact app_i trivial
    · refine ite_pred (fun c19 => ?_) (fun c19 => ?_)
      · exact app_i trivial
      · exact app_i trivial
  · refine lt_pred (fun v54 e54 => ?_)
    refine ite_pred (fun c54_0 => ?_) (fun c54_0 => ?_)
    · refine lt_pred (fun z130 e130 => ?_)
      have q130 : Kp ka kb m z130.2 := by rw [e130]; exact Kp.w (kp_m_popPlace σ hk (by omega)) (by omega)
      refine lt_pred (fun s133 e133 => ?_)
      have q133 : Kp ka kb m s133 := by rw [e133]; exact Kp.same q130 rfl rfl rfl
      exact Kp.w q133 (by omega)
    · refine ite_pred (fun c54_1 => ?_) (fun c54_1 => ?_)
      · refine lt_pred (fun z140 e140 => ?_)
        have q140 : Kp ka kb m z140.2 := by rw [e140]; exact Kp.w (kp_m_popPlace σ hk (by omega)) (by omega)
        refine lt_pred (fun s143 e143 => ?_)
        have q143 : Kp ka kb m s143 := by rw [e143]; exact Kp.same q140 rfl rfl rfl
        refine lt_pred (fun s150 e150 => ?_)
        have q150 : Kp ka kb m s150 := by rw [e150]; exact Kp.w (kp_m_setFlag s143 7 1 q143 (by omega)) (by omega)
        refine lt_pred (fun s155 e155 => ?_)
        have q155 : Kp ka kb m s155 := by rw [e155]; exact Kp.same q150 rfl rfl rfl
        exact Kp.w q155 (by omega)
      · refine ite_pred (fun c54_8 => ?_) (fun c54_8 => ?_)
        · refine lt_pred (fun s162 e162 => ?_)
          have q162 : Kp ka kb m s162 := by rw [e162]; exact Kp.same hk rfl rfl rfl
          exact Kp.w q162 (by omega)
        · refine ite_pred (fun c54_10 => ?_) (fun c54_10 => ?_)
          · refine lt_pred (fun s169 e169 => ?_)
            have q169 : Kp ka kb m s169 := by rw [e169]; exact Kp.same hk rfl rfl rfl
            exact Kp.w q169 (by omega)
          · refine ite_pred (fun c54_12 => ?_) (fun c54_12 => ?_)
            · refine lt_pred (fun z186 e186 => ?_)
              have q186 : Kp ka kb m z186.2 := by rw [e186]; exact Kp.w (kp_m_flashByte σ (m_pointer σ 30) hk (by omega)) (by omega)
              refine lt_pred (fun s189 e189 => ?_)
              have q189 : Kp ka kb m s189 := by rw [e189]; exact Kp.same q186 rfl rfl rfl
              exact Kp.w q189 (by omega)
            · refine ite_pred (fun c54_14 => ?_) (fun c54_14 => ?_)
              · refine lt_pred (fun s193 e193 => ?_)
                have q193 : Kp ka kb (m + 8000) s193 := by rw [e193]; exact Kp.w (kp_m_storesFlash σ hk (by omega)) (by omega)
                exact Kp.w q193 (by omega)
              · exact Kp.w hk (by omega)

def m_single (σ : Sg) (x1 : Int32) : Int32 × Sg :=
  lt (((x1 >>> (4 : Int32)) &&& 31) : Int32) fun v6 =>
  lt ((σ 1 (v6).toNatClampNeg) : Int32) fun v13 =>
  lt ((x1 &&& 15) : Int32) fun v18 =>
  if v18 = 0 then
    lt (m_logic σ (255 - v13)) fun z107 =>
    lt (sst z107.2 1 (v6).toNatClampNeg z107.1) fun s110 =>
    lt (m_setFlag s110 0 1) fun s114 =>
    (1, s114)
  else
    if v18 = 1 then
      lt (m_subtract σ 0 v13 0 0) fun z129 =>
      lt (sst z129.2 1 (v6).toNatClampNeg z129.1) fun s132 =>
      (1, s132)
    else
      if v18 = 2 then
        lt (sst σ 1 (v6).toNatClampNeg ((v13 >>> (4 : Int32)) ||| ((v13 &&& 15) <<< (4 : Int32)))) fun s150 =>
        (1, s150)
      else
        if (v18 = 3) ∨ (v18 = 10) then
          lt ((
            if (x1 &&& 15) = 3 then
              1
            else
              255) : Int32) fun z159 =>
          lt (((v13 + z159) &&& 255) : Int32) fun v174 =>
          lt ((
            if (x1 &&& 15) = 3 then
              128
            else
              127) : Int32) fun z183 =>
          lt ((
            if v174 = z183 then
              1
            else
              0) : Int32) fun z194 =>
          lt (m_setFlag σ 3 z194) fun s202 =>
          lt (m_zero s202 v174) fun s207 =>
          lt (sst s207 1 (v6).toNatClampNeg v174) fun s216 =>
          (1, s216)
        else
          if ((v18 = 5) ∨ (v18 = 6)) ∨ (v18 = 7) then
            lt (m_shifted σ x1 v6 v13) fun z223 =>
            (z223.1, z223.2)
          else
            if v18 = 8 then
              lt (m_others σ x1) fun z229 =>
              (z229.1, z229.2)
            else
              if v18 = 9 then
                lt (m_through σ x1) fun z235 =>
                (z235.1, z235.2)
              else
                if (v18 = 12) ∨ (v18 = 13) then
                  lt (m_next σ) fun z241 =>
                  lt (sst z241.2 0 0 (z241.1 &&& 2047)) fun s248 =>
                  (3, s248)
                else
                  if (v18 = 14) ∨ (v18 = 15) then
                    lt (m_next σ) fun z254 =>
                    lt ((z254.1 &&& 2047) : Int32) fun v261 =>
                    lt (m_pushPlace z254.2 (z254.2 0 0)) fun s268 =>
                    lt (sst s268 0 0 v261) fun s274 =>
                    (4, s274)
                  else
                    (1, σ)
set_option maxHeartbeats 4000000 in
theorem ok_m_single (σ : Sg) (x1 : Int32) (ok : XOK σ) : (Pri XOK 1 4) (m_single σ x1) := by
  unfold m_single
  refine lt_pred (fun v6 e6 => ?_)
  have f6 : rg 0 31 v6 := by rw [e6]; exact (rg_and_r (rg_w (lo2 := 0) rl_31 (by decide) (Int.le_refl _)))
  refine lt_pred (fun v13 e13 => ?_)
  have f13 : rg 0 255 v13 := by rw [e13]; exact (xr_1 ok _)
  refine lt_pred (fun v18 e18 => ?_)
  have f18 : rg 0 15 v18 := by rw [e18]; exact (rg_and_r (rg_w (lo2 := 0) rl_15 (by decide) (Int.le_refl _)))
  refine ite_pred (fun c18_0 => ?_) (fun c18_0 => ?_)
  · refine lt_pred (fun z107 e107 => ?_)
    have k107 : XOK z107.2 ∧ rg 0 255 z107.1 := by rw [e107]; exact ok_m_logic σ (255 - v13) ok (rg_sub rl_255 f13 (by decide) (by decide))
    refine lt_pred (fun s110 e110 => ?_)
    have k110 : XOK s110 := by rw [e110]; exact xst_1 k107.1 k107.2
    refine lt_pred (fun s114 e114 => ?_)
    have k114 : XOK s114 := by rw [e114]; exact ok_m_setFlag s110 0 1 k110 (rg_w rl_0 (by decide) (by decide)) (rg_w rl_1 (by decide) (by decide))
    exact ⟨k114, (rg_w rl_1 (by decide) (by decide))⟩
  · refine ite_pred (fun c18_1 => ?_) (fun c18_1 => ?_)
    · refine lt_pred (fun z129 e129 => ?_)
      have k129 : XOK z129.2 ∧ rg 0 255 z129.1 := by rw [e129]; exact ok_m_subtract σ 0 v13 0 0 ok (rg_w rl_0 (by decide) (by decide))
      refine lt_pred (fun s132 e132 => ?_)
      have k132 : XOK s132 := by rw [e132]; exact xst_1 k129.1 k129.2
      exact ⟨k132, (rg_w rl_1 (by decide) (by decide))⟩
    · refine ite_pred (fun c18_2 => ?_) (fun c18_2 => ?_)
      · refine lt_pred (fun s150 e150 => ?_)
        have k150 : XOK s150 := by rw [e150]; exact xst_1 ok (rg_or 8 (rg_shr 4 (by decide +kernel) f13) (rg_shl 4 (by decide +kernel) (rg_and_r (rg_w (lo2 := 0) rl_15 (by decide) (Int.le_refl _))) (by decide)) (by decide) (by decide) (by decide))
        exact ⟨k150, (rg_w rl_1 (by decide) (by decide))⟩
      · refine ite_pred (fun c18_3 => ?_) (fun c18_3 => ?_)
        · refine jn_pred (fun z159 => rg 1 255 z159) (fun z159 h159 => ?_) ?_
          · refine lt_pred (fun v174 e174 => ?_)
            have f174 : rg 0 255 v174 := by rw [e174]; exact (rg_and_r (rg_w (lo2 := 0) rl_255 (by decide) (Int.le_refl _)))
            refine jn_pred (fun z183 => rg 127 128 z183) (fun z183 h183 => ?_) ?_
            · refine jn_pred (fun z194 => rg 0 1 z194) (fun z194 h194 => ?_) ?_
              · refine lt_pred (fun s202 e202 => ?_)
                have k202 : XOK s202 := by rw [e202]; exact ok_m_setFlag σ 3 z194 ok (rg_w rl_3 (by decide) (by decide)) h194
                refine lt_pred (fun s207 e207 => ?_)
                have k207 : XOK s207 := by rw [e207]; exact ok_m_zero s202 v174 k202
                refine lt_pred (fun s216 e216 => ?_)
                have k216 : XOK s216 := by rw [e216]; exact xst_1 k207 f174
                exact ⟨k216, (rg_w rl_1 (by decide) (by decide))⟩
              · refine ite_pred (fun c194 => ?_) (fun c194 => ?_)
                · exact app_i (rg_w rl_1 (by decide) (by decide))
                · exact app_i (rg_w rl_0 (by decide) (by decide))
            · refine ite_pred (fun c183 => ?_) (fun c183 => ?_)
              · exact app_i (rg_w rl_128 (by decide) (by decide))
              · exact app_i (rg_w rl_127 (by decide) (by decide))
          · refine ite_pred (fun c159 => ?_) (fun c159 => ?_)
            · exact app_i (rg_w rl_1 (by decide) (by decide))
            · exact app_i (rg_w rl_255 (by decide) (by decide))
        · have n18_3 : ¬ v18 = 3 := (fun q => c18_3 (Or.inl q))
          have n18_10 : ¬ v18 = 10 := (fun q => c18_3 (Or.inr q))
          refine ite_pred (fun c18_5 => ?_) (fun c18_5 => ?_)
          · refine lt_pred (fun z223 e223 => ?_)
            have k223 : XOK z223.2 ∧ rg 1 1 z223.1 := by rw [e223]; exact ok_m_shifted σ x1 v6 v13 ok f6 f13
            exact ⟨k223.1, (rg_w k223.2 (by decide) (by decide))⟩
          · have n18_5 : ¬ v18 = 5 := (fun q => c18_5 (Or.inl (Or.inl q)))
            have n18_6 : ¬ v18 = 6 := (fun q => c18_5 (Or.inl (Or.inr q)))
            have n18_7 : ¬ v18 = 7 := (fun q => c18_5 (Or.inr q))
            refine ite_pred (fun c18_8 => ?_) (fun c18_8 => ?_)
            · refine lt_pred (fun z229 e229 => ?_)
              have k229 : XOK z229.2 ∧ rg 1 4 z229.1 := by rw [e229]; exact ok_m_others σ x1 ok
              exact ⟨k229.1, k229.2⟩
            · refine ite_pred (fun c18_9 => ?_) (fun c18_9 => ?_)
              · refine lt_pred (fun z235 e235 => ?_)
                have k235 : XOK z235.2 ∧ rg 1 3 z235.1 := by rw [e235]; exact ok_m_through σ x1 ok
                exact ⟨k235.1, (rg_w k235.2 (by decide) (by decide))⟩
              · refine ite_pred (fun c18_12 => ?_) (fun c18_12 => ?_)
                · refine lt_pred (fun z241 e241 => ?_)
                  have k241 : XOK z241.2 ∧ rg 0 65535 z241.1 := by rw [e241]; exact ok_m_next σ ok
                  refine lt_pred (fun s248 e248 => ?_)
                  have k248 : XOK s248 := by rw [e248]; exact xst_0_0 k241.1 (rg_and_r (rg_w (lo2 := 0) rl_2047 (by decide) (Int.le_refl _)))
                  exact ⟨k248, (rg_w rl_3 (by decide) (by decide))⟩
                · have n18_12 : ¬ v18 = 12 := (fun q => c18_12 (Or.inl q))
                  have n18_13 : ¬ v18 = 13 := (fun q => c18_12 (Or.inr q))
                  refine ite_pred (fun c18_14 => ?_) (fun c18_14 => ?_)
                  · refine lt_pred (fun z254 e254 => ?_)
                    have k254 : XOK z254.2 ∧ rg 0 65535 z254.1 := by rw [e254]; exact ok_m_next σ ok
                    refine lt_pred (fun v261 e261 => ?_)
                    have f261 : rg 0 2047 v261 := by rw [e261]; exact (rg_and_r (rg_w (lo2 := 0) rl_2047 (by decide) (Int.le_refl _)))
                    refine lt_pred (fun s268 e268 => ?_)
                    have k268 : XOK s268 := by rw [e268]; exact ok_m_pushPlace z254.2 (z254.2 0 0) k254.1 (xr0_0 k254.1)
                    refine lt_pred (fun s274 e274 => ?_)
                    have k274 : XOK s274 := by rw [e274]; exact xst_0_0 k268 f261
                    exact ⟨k274, (rg_w rl_4 (by decide) (by decide))⟩
                  · have n18_14 : ¬ v18 = 14 := (fun q => c18_14 (Or.inl q))
                    have n18_15 : ¬ v18 = 15 := (fun q => c18_14 (Or.inr q))
                    exact ⟨ok, (rg_w rl_1 (by decide) (by decide))⟩

set_option maxHeartbeats 4000000 in
theorem kp_m_single (σ : Sg) (x1 : Int32) {ka kb : Int32} {m : Int} (hk : Kp ka kb m σ) (hm : m ≤ 1500230000) : Kp ka kb (m + 8000) (m_single σ x1).2 := by
  have hm0 : 0 ≤ m := hk.nn
  show Kpi ka kb (m + 8000) (m_single σ x1)
  unfold m_single
  refine lt_pred (fun v6 e6 => ?_)
  refine lt_pred (fun v13 e13 => ?_)
  refine lt_pred (fun v18 e18 => ?_)
  refine ite_pred (fun c18_0 => ?_) (fun c18_0 => ?_)
  · refine lt_pred (fun z107 e107 => ?_)
    have q107 : Kp ka kb m z107.2 := by rw [e107]; exact Kp.w (kp_m_logic σ (255 - v13) hk (by omega)) (by omega)
    refine lt_pred (fun s110 e110 => ?_)
    have q110 : Kp ka kb m s110 := by rw [e110]; exact Kp.same q107 rfl rfl rfl
    refine lt_pred (fun s114 e114 => ?_)
    have q114 : Kp ka kb m s114 := by rw [e114]; exact Kp.w (kp_m_setFlag s110 0 1 q110 (by omega)) (by omega)
    exact Kp.w q114 (by omega)
  · refine ite_pred (fun c18_1 => ?_) (fun c18_1 => ?_)
    · refine lt_pred (fun z129 e129 => ?_)
      have q129 : Kp ka kb m z129.2 := by rw [e129]; exact Kp.w (kp_m_subtract σ 0 v13 0 0 hk (by omega)) (by omega)
      refine lt_pred (fun s132 e132 => ?_)
      have q132 : Kp ka kb m s132 := by rw [e132]; exact Kp.same q129 rfl rfl rfl
      exact Kp.w q132 (by omega)
    · refine ite_pred (fun c18_2 => ?_) (fun c18_2 => ?_)
      · refine lt_pred (fun s150 e150 => ?_)
        have q150 : Kp ka kb m s150 := by rw [e150]; exact Kp.same hk rfl rfl rfl
        exact Kp.w q150 (by omega)
      · refine ite_pred (fun c18_3 => ?_) (fun c18_3 => ?_)
        · refine jn_pred (fun z159 => True) (fun z159 h159 => ?_) ?_
          · refine lt_pred (fun v174 e174 => ?_)
            refine jn_pred (fun z183 => True) (fun z183 h183 => ?_) ?_
            · refine jn_pred (fun z194 => True) (fun z194 h194 => ?_) ?_
              · refine lt_pred (fun s202 e202 => ?_)
                have q202 : Kp ka kb m s202 := by rw [e202]; exact Kp.w (kp_m_setFlag σ 3 z194 hk (by omega)) (by omega)
                refine lt_pred (fun s207 e207 => ?_)
                have q207 : Kp ka kb m s207 := by rw [e207]; exact Kp.w (kp_m_zero s202 v174 q202 (by omega)) (by omega)
                refine lt_pred (fun s216 e216 => ?_)
                have q216 : Kp ka kb m s216 := by rw [e216]; exact Kp.same q207 rfl rfl rfl
                exact Kp.w q216 (by omega)
              · refine ite_pred (fun c194 => ?_) (fun c194 => ?_)
                · exact app_i trivial
                · exact app_i trivial
            · refine ite_pred (fun c183 => ?_) (fun c183 => ?_)
              · exact app_i trivial
              · exact app_i trivial
          · refine ite_pred (fun c159 => ?_) (fun c159 => ?_)
            · exact app_i trivial
            · exact app_i trivial
        · refine ite_pred (fun c18_5 => ?_) (fun c18_5 => ?_)
          · refine lt_pred (fun z223 e223 => ?_)
            have q223 : Kp ka kb m z223.2 := by rw [e223]; exact Kp.w (kp_m_shifted σ x1 v6 v13 hk (by omega)) (by omega)
            exact Kp.w q223 (by omega)
          · refine ite_pred (fun c18_8 => ?_) (fun c18_8 => ?_)
            · refine lt_pred (fun z229 e229 => ?_)
              have q229 : Kp ka kb (m + 8000) z229.2 := by rw [e229]; exact Kp.w (kp_m_others σ x1 hk (by omega)) (by omega)
              exact Kp.w q229 (by omega)
            · refine ite_pred (fun c18_9 => ?_) (fun c18_9 => ?_)
              · refine lt_pred (fun z235 e235 => ?_)
                have q235 : Kp ka kb (m + 8) z235.2 := by rw [e235]; exact Kp.w (kp_m_through σ x1 hk (by omega)) (by omega)
                exact Kp.w q235 (by omega)
              · refine ite_pred (fun c18_12 => ?_) (fun c18_12 => ?_)
                · refine lt_pred (fun z241 e241 => ?_)
                  have q241 : Kp ka kb m z241.2 := by rw [e241]; exact Kp.w (kp_m_next σ hk (by omega)) (by omega)
                  refine lt_pred (fun s248 e248 => ?_)
                  have q248 : Kp ka kb m s248 := by rw [e248]; exact Kp.same q241 rfl rfl rfl
                  exact Kp.w q248 (by omega)
                · refine ite_pred (fun c18_14 => ?_) (fun c18_14 => ?_)
                  · refine lt_pred (fun z254 e254 => ?_)
                    have q254 : Kp ka kb m z254.2 := by rw [e254]; exact Kp.w (kp_m_next σ hk (by omega)) (by omega)
                    refine lt_pred (fun v261 e261 => ?_)
                    refine lt_pred (fun s268 e268 => ?_)
                    have q268 : Kp ka kb (m + 8) s268 := by rw [e268]; exact Kp.w (kp_m_pushPlace z254.2 (z254.2 0 0) q254 (by omega)) (by omega)
                    refine lt_pred (fun s274 e274 => ?_)
                    have q274 : Kp ka kb (m + 8) s274 := by rw [e274]; exact Kp.same q268 rfl rfl rfl
                    exact Kp.w q274 (by omega)
                  · exact Kp.w hk (by omega)

def m_pairs (σ : Sg) (x1 : Int32) : Int32 × Sg :=
  lt ((24 + ((x1 >>> (3 : Int32)) &&& 6)) : Int32) fun v9 =>
  lt (((x1 &&& 15) ||| ((x1 >>> (2 : Int32)) &&& 48)) : Int32) fun v21 =>
  lt ((m_pointer σ v9) : Int32) fun v27 =>
  lt ((
    if (x1 &&& 256) = 0 then
      1
    else
      0) : Int32) fun z34 =>
  lt ((
    if z34 = 0 then
      (v27 - v21)
    else
      (v27 + v21)) : Int32) fun z46 =>
  lt ((z46 &&& 65535) : Int32) fun v63 =>
  lt (m_setPointer σ v9 v63) fun s69 =>
  lt ((
    if z34 = 0 then
      if v27 < v21 then
        1
      else
        0
    else
      if 65535 < (v27 + v21) then
        1
      else
        0) : Int32) fun z76 =>
  lt (m_setFlag s69 0 z76) fun s107 =>
  lt ((
    if z34 = 0 then
      if (v27 < 32768) ∨ (¬ (v63 < 32768)) then
        0
      else
        1
    else
      if (¬ (v27 < 32768)) ∨ (v63 < 32768) then
        0
      else
        1) : Int32) fun z114 =>
  lt (m_setFlag s107 3 z114) fun s162 =>
  lt ((
    if v63 < 32768 then
      0
    else
      1) : Int32) fun z172 =>
  lt (m_setFlag s162 2 z172) fun s180 =>
  lt ((
    if v63 = 0 then
      1
    else
      0) : Int32) fun z187 =>
  lt (m_setFlag s180 1 z187) fun s195 =>
  lt ((
    if (m_flag s195 2) = (m_flag s195 3) then
      0
    else
      1) : Int32) fun z210 =>
  lt (m_setFlag s195 4 z210) fun s218 =>
  (2, s218)
set_option maxHeartbeats 4000000 in
theorem ok_m_pairs (σ : Sg) (x1 : Int32) (ok : XOK σ) : (Pri XOK 2 2) (m_pairs σ x1) := by
  unfold m_pairs
  refine lt_pred (fun v9 e9 => ?_)
  have f9 : rg 24 30 v9 := by rw [e9]; exact (rg_add rl_24 (rg_and_r (rg_w (lo2 := 0) rl_6 (by decide) (Int.le_refl _))) (by decide) (by decide))
  refine lt_pred (fun v21 e21 => ?_)
  have f21 : rg 0 63 v21 := by rw [e21]; exact (rg_or 6 (rg_and_r (rg_w (lo2 := 0) rl_15 (by decide) (Int.le_refl _))) (rg_and_r (rg_w (lo2 := 0) rl_48 (by decide) (Int.le_refl _))) (by decide) (by decide) (by decide))
  refine lt_pred (fun v27 e27 => ?_)
  have f27 : rg 0 65535 v27 := by rw [e27]; exact (ok_m_pointer σ v9 ok (rg_w f9 (by decide) (by decide)))
  refine jn_pred (fun z34 => rg 0 1 z34) (fun z34 h34 => ?_) ?_
  · refine jn_pred (fun z46 => rg (-63) 65598 z46) (fun z46 h46 => ?_) ?_
    · refine lt_pred (fun v63 e63 => ?_)
      have f63 : rg 0 65535 v63 := by rw [e63]; exact (rg_and_r (rg_w (lo2 := 0) rl_65535 (by decide) (Int.le_refl _)))
      refine lt_pred (fun s69 e69 => ?_)
      have k69 : XOK s69 := by rw [e69]; exact ok_m_setPointer σ v9 v63 ok (rg_w f9 (by decide) (by decide))
      refine jn_pred (fun z76 => rg 0 1 z76) (fun z76 h76 => ?_) ?_
      · refine lt_pred (fun s107 e107 => ?_)
        have k107 : XOK s107 := by rw [e107]; exact ok_m_setFlag s69 0 z76 k69 (rg_w rl_0 (by decide) (by decide)) h76
        refine jn_pred (fun z114 => rg 0 1 z114) (fun z114 h114 => ?_) ?_
        · refine lt_pred (fun s162 e162 => ?_)
          have k162 : XOK s162 := by rw [e162]; exact ok_m_setFlag s107 3 z114 k107 (rg_w rl_3 (by decide) (by decide)) h114
          refine jn_pred (fun z172 => rg 0 1 z172) (fun z172 h172 => ?_) ?_
          · refine lt_pred (fun s180 e180 => ?_)
            have k180 : XOK s180 := by rw [e180]; exact ok_m_setFlag s162 2 z172 k162 (rg_w rl_2 (by decide) (by decide)) h172
            refine jn_pred (fun z187 => rg 0 1 z187) (fun z187 h187 => ?_) ?_
            · refine lt_pred (fun s195 e195 => ?_)
              have k195 : XOK s195 := by rw [e195]; exact ok_m_setFlag s180 1 z187 k180 (rg_w rl_1 (by decide) (by decide)) h187
              refine jn_pred (fun z210 => rg 0 1 z210) (fun z210 h210 => ?_) ?_
              · refine lt_pred (fun s218 e218 => ?_)
                have k218 : XOK s218 := by rw [e218]; exact ok_m_setFlag s195 4 z210 k195 (rg_w rl_4 (by decide) (by decide)) h210
                exact ⟨k218, rl_2⟩
              · refine ite_pred (fun c210 => ?_) (fun c210 => ?_)
                · exact app_i (rg_w rl_0 (by decide) (by decide))
                · exact app_i (rg_w rl_1 (by decide) (by decide))
            · refine ite_pred (fun c187 => ?_) (fun c187 => ?_)
              · exact app_i (rg_w rl_1 (by decide) (by decide))
              · exact app_i (rg_w rl_0 (by decide) (by decide))
          · refine ite_pred (fun c172 => ?_) (fun c172 => ?_)
            · exact app_i (rg_w rl_0 (by decide) (by decide))
            · exact app_i (rg_w rl_1 (by decide) (by decide))
        · refine ite_pred (fun c114 => ?_) (fun c114 => ?_)
          · refine ite_pred (fun c146 => ?_) (fun c146 => ?_)
            · exact app_i (rg_w rl_0 (by decide) (by decide))
            · exact app_i (rg_w rl_1 (by decide) (by decide))
          · refine ite_pred (fun c122 => ?_) (fun c122 => ?_)
            · exact app_i (rg_w rl_0 (by decide) (by decide))
            · exact app_i (rg_w rl_1 (by decide) (by decide))
      · refine ite_pred (fun c76 => ?_) (fun c76 => ?_)
        · refine ite_pred (fun c99 => ?_) (fun c99 => ?_)
          · exact app_i (rg_w rl_1 (by decide) (by decide))
          · exact app_i (rg_w rl_0 (by decide) (by decide))
        · refine ite_pred (fun c85 => ?_) (fun c85 => ?_)
          · exact app_i (rg_w rl_1 (by decide) (by decide))
          · exact app_i (rg_w rl_0 (by decide) (by decide))
    · refine ite_pred (fun c46 => ?_) (fun c46 => ?_)
      · exact app_i (rg_w (rg_sub f27 f21 (by decide) (by decide)) (by decide) (by decide))
      · exact app_i (rg_w (rg_add f27 f21 (by decide) (by decide)) (by decide) (by decide))
  · refine ite_pred (fun c34 => ?_) (fun c34 => ?_)
    · exact app_i (rg_w rl_1 (by decide) (by decide))
    · exact app_i (rg_w rl_0 (by decide) (by decide))

set_option maxHeartbeats 4000000 in
theorem kp_m_pairs (σ : Sg) (x1 : Int32) {ka kb : Int32} {m : Int} (hk : Kp ka kb m σ) (hm : m ≤ 1500280000) : Kp ka kb m (m_pairs σ x1).2 := by
  have hm0 : 0 ≤ m := hk.nn
  show Kpi ka kb m (m_pairs σ x1)
  unfold m_pairs
  refine lt_pred (fun v9 e9 => ?_)
  refine lt_pred (fun v21 e21 => ?_)
  refine lt_pred (fun v27 e27 => ?_)
  refine jn_pred (fun z34 => True) (fun z34 h34 => ?_) ?_
  · refine jn_pred (fun z46 => True) (fun z46 h46 => ?_) ?_
    · refine lt_pred (fun v63 e63 => ?_)
      refine lt_pred (fun s69 e69 => ?_)
      have q69 : Kp ka kb m s69 := by rw [e69]; exact Kp.w (kp_m_setPointer σ v9 v63 hk (by omega)) (by omega)
      refine jn_pred (fun z76 => True) (fun z76 h76 => ?_) ?_
      · refine lt_pred (fun s107 e107 => ?_)
        have q107 : Kp ka kb m s107 := by rw [e107]; exact Kp.w (kp_m_setFlag s69 0 z76 q69 (by omega)) (by omega)
        refine jn_pred (fun z114 => True) (fun z114 h114 => ?_) ?_
        · refine lt_pred (fun s162 e162 => ?_)
          have q162 : Kp ka kb m s162 := by rw [e162]; exact Kp.w (kp_m_setFlag s107 3 z114 q107 (by omega)) (by omega)
          refine jn_pred (fun z172 => True) (fun z172 h172 => ?_) ?_
          · refine lt_pred (fun s180 e180 => ?_)
            have q180 : Kp ka kb m s180 := by rw [e180]; exact Kp.w (kp_m_setFlag s162 2 z172 q162 (by omega)) (by omega)
            refine jn_pred (fun z187 => True) (fun z187 h187 => ?_) ?_
            · refine lt_pred (fun s195 e195 => ?_)
              have q195 : Kp ka kb m s195 := by rw [e195]; exact Kp.w (kp_m_setFlag s180 1 z187 q180 (by omega)) (by omega)
              refine jn_pred (fun z210 => True) (fun z210 h210 => ?_) ?_
              · refine lt_pred (fun s218 e218 => ?_)
                have q218 : Kp ka kb m s218 := by rw [e218]; exact Kp.w (kp_m_setFlag s195 4 z210 q195 (by omega)) (by omega)
                exact Kp.w q218 (by omega)
              · refine ite_pred (fun c210 => ?_) (fun c210 => ?_)
                · exact app_i trivial
                · exact app_i trivial
            · refine ite_pred (fun c187 => ?_) (fun c187 => ?_)
              · exact app_i trivial
              · exact app_i trivial
          · refine ite_pred (fun c172 => ?_) (fun c172 => ?_)
            · exact app_i trivial
            · exact app_i trivial
        · refine ite_pred (fun c114 => ?_) (fun c114 => ?_)
          · refine ite_pred (fun c146 => ?_) (fun c146 => ?_)
            · exact app_i trivial
            · exact app_i trivial
          · refine ite_pred (fun c122 => ?_) (fun c122 => ?_)
            · exact app_i trivial
            · exact app_i trivial
      · refine ite_pred (fun c76 => ?_) (fun c76 => ?_)
        · refine ite_pred (fun c99 => ?_) (fun c99 => ?_)
          · exact app_i trivial
          · exact app_i trivial
        · refine ite_pred (fun c85 => ?_) (fun c85 => ?_)
          · exact app_i trivial
          · exact app_i trivial
    · refine ite_pred (fun c46 => ?_) (fun c46 => ?_)
      · exact app_i trivial
      · exact app_i trivial
  · refine ite_pred (fun c34 => ?_) (fun c34 => ?_)
    · exact app_i trivial
    · exact app_i trivial

def m_portBits (σ : Sg) (x1 : Int32) : Int32 × Sg :=
  lt ((32 + ((x1 >>> (3 : Int32)) &&& 31)) : Int32) fun v9 =>
  lt (((1 : Int32) <<< ((x1 &&& 7) &&& 31)) : Int32) fun v16 =>
  lt ((
    if (x1 &&& 512) = 0 then
      0
    else
      1) : Int32) fun z22 =>
  if (x1 &&& 256) = 0 then
    if (v9 = 35) ∨ (v9 = 53) then
      lt ((
        if z22 = 0 then
          σ
        else
          lt (m_store σ v9 v16) fun s91 =>
          s91) : Sg) fun z85 =>
      (2, z85)
    else
      lt (m_load σ v9) fun z98 =>
      lt ((
        if z22 = 0 then
          (z98.1 &&& (v16 ^^^ (-1)))
        else
          (z98.1 ||| v16)) : Int32) fun z107 =>
      lt (m_store z98.2 v9 z107) fun s123 =>
      (2, s123)
  else
    lt (m_load σ v9) fun z42 =>
    lt ((
      if (z42.1 &&& v16) = 0 then
        0
      else
        1) : Int32) fun z47 =>
    lt ((
      if z47 = z22 then
        lt (m_skips z42.2) fun z62 =>
        ((1 + z62.1), z62.2)
      else
        (1, z42.2)) : Int32 × Sg) fun z57 =>
    (z57.1, z57.2)
set_option maxHeartbeats 4000000 in
theorem ok_m_portBits (σ : Sg) (x1 : Int32) (ok : XOK σ) : (Pri XOK 1 3) (m_portBits σ x1) := by
  unfold m_portBits
  refine lt_pred (fun v9 e9 => ?_)
  have f9 : rg 32 63 v9 := by rw [e9]; exact (rg_add rl_32 (rg_and_r (rg_w (lo2 := 0) rl_31 (by decide) (Int.le_refl _))) (by decide) (by decide))
  refine lt_pred (fun v16 e16 => ?_)
  have f16 : rg 0 255 v16 := by rw [e16]; exact (rg_bit (rg_and_r (rg_w (lo2 := 0) rl_7 (by decide) (Int.le_refl _))) (by decide))
  refine jn_pred (fun z22 => rg 0 1 z22) (fun z22 h22 => ?_) ?_
  · refine ite_pred (fun c37 => ?_) (fun c37 => ?_)
    · refine ite_pred (fun c74 => ?_) (fun c74 => ?_)
      · refine jn_pred (fun z85 => XOK z85) (fun z85 h85 => ?_) ?_
        · exact ⟨h85, (rg_w rl_2 (by decide) (by decide))⟩
        · refine ite_pred (fun c85 => ?_) (fun c85 => ?_)
          · exact app_i ok
          · refine lt_pred (fun s91 e91 => ?_)
            have k91 : XOK s91 := by rw [e91]; exact ok_m_store σ v9 v16 ok (rg_w (Or.elim c74 (fun w4 => (rg_w (lo2 := 35) (hi2 := 53) (rg_eq w4 rl_35) (by decide) (by decide))) (fun w4 => (rg_w (lo2 := 35) (hi2 := 53) (rg_eq w4 rl_53) (by decide) (by decide)))) (by decide) (by decide)) f16
            exact app_i k91
      · refine lt_pred (fun z98 e98 => ?_)
        have k98 : XOK z98.2 ∧ rg 0 255 z98.1 := by rw [e98]; exact ok_m_load σ v9 ok (rg_w f9 (by decide) (by decide))
        refine jn_pred (fun z107 => rg 0 255 z107) (fun z107 h107 => ?_) ?_
        · refine lt_pred (fun s123 e123 => ?_)
          have k123 : XOK s123 := by rw [e123]; exact ok_m_store z98.2 v9 z107 k98.1 (rg_w f9 (by decide) (by decide)) h107
          exact ⟨k123, (rg_w rl_2 (by decide) (by decide))⟩
        · refine ite_pred (fun c107 => ?_) (fun c107 => ?_)
          · exact app_i (rg_and_l k98.2)
          · exact app_i (rg_or 8 k98.2 f16 (by decide) (by decide) (by decide))
    · refine lt_pred (fun z42 e42 => ?_)
      have k42 : XOK z42.2 ∧ rg 0 255 z42.1 := by rw [e42]; exact ok_m_load σ v9 ok (rg_w f9 (by decide) (by decide))
      refine jn_pred (fun z47 => rg 0 1 z47) (fun z47 h47 => ?_) ?_
      · refine jn_pred (fun z57 => rg 1 3 z57.1 ∧ XOK z57.2) (fun z57 h57 => ?_) ?_
        · exact ⟨h57.2, h57.1⟩
        · refine ite_pred (fun c57 => ?_) (fun c57 => ?_)
          · refine lt_pred (fun z62 e62 => ?_)
            have k62 : XOK z62.2 ∧ rg 1 2 z62.1 := by rw [e62]; exact ok_m_skips z42.2 k42.1
            exact app_i ⟨(rg_w (rg_add rl_1 k62.2 (by decide) (by decide)) (by decide) (by decide)), k62.1⟩
          · exact app_i ⟨(rg_w rl_1 (by decide) (by decide)), k42.1⟩
      · refine ite_pred (fun c47 => ?_) (fun c47 => ?_)
        · exact app_i (rg_w rl_0 (by decide) (by decide))
        · exact app_i (rg_w rl_1 (by decide) (by decide))
  · refine ite_pred (fun c22 => ?_) (fun c22 => ?_)
    · exact app_i (rg_w rl_0 (by decide) (by decide))
    · exact app_i (rg_w rl_1 (by decide) (by decide))

set_option maxHeartbeats 4000000 in
theorem kp_m_portBits (σ : Sg) (x1 : Int32) {ka kb : Int32} {m : Int} (hk : Kp ka kb m σ) (hm : m ≤ 1500260000) : Kp ka kb (m + 4) (m_portBits σ x1).2 := by
  have hm0 : 0 ≤ m := hk.nn
  show Kpi ka kb (m + 4) (m_portBits σ x1)
  unfold m_portBits
  refine lt_pred (fun v9 e9 => ?_)
  refine lt_pred (fun v16 e16 => ?_)
  refine jn_pred (fun z22 => True) (fun z22 h22 => ?_) ?_
  · refine ite_pred (fun c37 => ?_) (fun c37 => ?_)
    · refine ite_pred (fun c74 => ?_) (fun c74 => ?_)
      · refine jn_pred (fun z85 => Kp ka kb (m + 4) z85) (fun z85 h85 => ?_) ?_
        · exact Kp.w h85 (by omega)
        · refine ite_pred (fun c85 => ?_) (fun c85 => ?_)
          · exact app_i (Kp.w hk (by omega))
          · refine lt_pred (fun s91 e91 => ?_)
            have q91 : Kp ka kb (m + 4) s91 := by rw [e91]; exact Kp.w (kp_m_store σ v9 v16 hk (by omega)) (by omega)
            exact app_i (Kp.w q91 (by omega))
      · refine lt_pred (fun z98 e98 => ?_)
        have q98 : Kp ka kb m z98.2 := by rw [e98]; exact Kp.w (kp_m_load σ v9 hk (by omega)) (by omega)
        refine jn_pred (fun z107 => True) (fun z107 h107 => ?_) ?_
        · refine lt_pred (fun s123 e123 => ?_)
          have q123 : Kp ka kb (m + 4) s123 := by rw [e123]; exact Kp.w (kp_m_store z98.2 v9 z107 q98 (by omega)) (by omega)
          exact Kp.w q123 (by omega)
        · refine ite_pred (fun c107 => ?_) (fun c107 => ?_)
          · exact app_i trivial
          · exact app_i trivial
    · refine lt_pred (fun z42 e42 => ?_)
      have q42 : Kp ka kb m z42.2 := by rw [e42]; exact Kp.w (kp_m_load σ v9 hk (by omega)) (by omega)
      refine jn_pred (fun z47 => True) (fun z47 h47 => ?_) ?_
      · refine jn_pred (fun z57 => Kp ka kb m z57.2) (fun z57 h57 => ?_) ?_
        · exact Kp.w h57 (by omega)
        · refine ite_pred (fun c57 => ?_) (fun c57 => ?_)
          · refine lt_pred (fun z62 e62 => ?_)
            have q62 : Kp ka kb m z62.2 := by rw [e62]; exact Kp.w (kp_m_skips z42.2 q42 (by omega)) (by omega)
            exact app_i (Kp.w q62 (by omega))
          · exact app_i (Kp.w q42 (by omega))
      · refine ite_pred (fun c47 => ?_) (fun c47 => ?_)
        · exact app_i trivial
        · exact app_i trivial
  · refine ite_pred (fun c22 => ?_) (fun c22 => ?_)
    · exact app_i trivial
    · exact app_i trivial

def m_nines (σ : Sg) (x1 : Int32) : Int32 × Sg :=
  lt (((x1 >>> (9 : Int32)) &&& 7) : Int32) fun v7 =>
  if v7 = 0 then
    lt (m_loads σ x1) fun z46 =>
    (z46.1, z46.2)
  else
    if v7 = 1 then
      lt (m_stores σ x1) fun z52 =>
      (z52.1, z52.2)
    else
      if v7 = 2 then
        lt (m_single σ x1) fun z58 =>
        (z58.1, z58.2)
      else
        if v7 = 3 then
          lt (m_pairs σ x1) fun z64 =>
          (z64.1, z64.2)
        else
          if (v7 = 4) ∨ (v7 = 5) then
            lt (m_portBits σ x1) fun z70 =>
            (z70.1, z70.2)
          else
            lt (m_product σ ((σ 1 (((x1 >>> (4 : Int32)) &&& 31)).toNatClampNeg) * (σ 1 (((x1 &&& 15) ||| ((x1 >>> (5 : Int32)) &&& 16))).toNatClampNeg)) 0) fun s104 =>
            (2, s104)
set_option maxHeartbeats 4000000 in
theorem ok_m_nines (σ : Sg) (x1 : Int32) (ok : XOK σ) : (Pri XOK 1 4) (m_nines σ x1) := by
  unfold m_nines
  refine lt_pred (fun v7 e7 => ?_)
  have f7 : rg 0 7 v7 := by rw [e7]; exact (rg_and_r (rg_w (lo2 := 0) rl_7 (by decide) (Int.le_refl _)))
  refine ite_pred (fun c7_0 => ?_) (fun c7_0 => ?_)
  · refine lt_pred (fun z46 e46 => ?_)
    have k46 : XOK z46.2 ∧ rg 1 3 z46.1 := by rw [e46]; exact ok_m_loads σ x1 ok
    exact ⟨k46.1, (rg_w k46.2 (by decide) (by decide))⟩
  · refine ite_pred (fun c7_1 => ?_) (fun c7_1 => ?_)
    · refine lt_pred (fun z52 e52 => ?_)
      have k52 : XOK z52.2 ∧ rg 1 2 z52.1 := by rw [e52]; exact ok_m_stores σ x1 ok
      exact ⟨k52.1, (rg_w k52.2 (by decide) (by decide))⟩
    · refine ite_pred (fun c7_2 => ?_) (fun c7_2 => ?_)
      · refine lt_pred (fun z58 e58 => ?_)
        have k58 : XOK z58.2 ∧ rg 1 4 z58.1 := by rw [e58]; exact ok_m_single σ x1 ok
        exact ⟨k58.1, k58.2⟩
      · refine ite_pred (fun c7_3 => ?_) (fun c7_3 => ?_)
        · refine lt_pred (fun z64 e64 => ?_)
          have k64 : XOK z64.2 ∧ rg 2 2 z64.1 := by rw [e64]; exact ok_m_pairs σ x1 ok
          exact ⟨k64.1, (rg_w k64.2 (by decide) (by decide))⟩
        · refine ite_pred (fun c7_4 => ?_) (fun c7_4 => ?_)
          · refine lt_pred (fun z70 e70 => ?_)
            have k70 : XOK z70.2 ∧ rg 1 3 z70.1 := by rw [e70]; exact ok_m_portBits σ x1 ok
            exact ⟨k70.1, (rg_w k70.2 (by decide) (by decide))⟩
          · have n7_4 : ¬ v7 = 4 := (fun q => c7_4 (Or.inl q))
            have n7_5 : ¬ v7 = 5 := (fun q => c7_4 (Or.inr q))
            refine lt_pred (fun s104 e104 => ?_)
            have k104 : XOK s104 := by rw [e104]; exact ok_m_product σ ((σ 1 (((x1 >>> (4 : Int32)) &&& 31)).toNatClampNeg) * (σ 1 (((x1 &&& 15) ||| ((x1 >>> (5 : Int32)) &&& 16))).toNatClampNeg)) 0 ok (rg_w rl_0 (by decide) (by decide))
            exact ⟨k104, (rg_w rl_2 (by decide) (by decide))⟩

set_option maxHeartbeats 4000000 in
theorem kp_m_nines (σ : Sg) (x1 : Int32) {ka kb : Int32} {m : Int} (hk : Kp ka kb m σ) (hm : m ≤ 1500220000) : Kp ka kb (m + 8000) (m_nines σ x1).2 := by
  have hm0 : 0 ≤ m := hk.nn
  show Kpi ka kb (m + 8000) (m_nines σ x1)
  unfold m_nines
  refine lt_pred (fun v7 e7 => ?_)
  refine ite_pred (fun c7_0 => ?_) (fun c7_0 => ?_)
  · refine lt_pred (fun z46 e46 => ?_)
    have q46 : Kp ka kb m z46.2 := by rw [e46]; exact Kp.w (kp_m_loads σ x1 hk (by omega)) (by omega)
    exact Kp.w q46 (by omega)
  · refine ite_pred (fun c7_1 => ?_) (fun c7_1 => ?_)
    · refine lt_pred (fun z52 e52 => ?_)
      have q52 : Kp ka kb (m + 4) z52.2 := by rw [e52]; exact Kp.w (kp_m_stores σ x1 hk (by omega)) (by omega)
      exact Kp.w q52 (by omega)
    · refine ite_pred (fun c7_2 => ?_) (fun c7_2 => ?_)
      · refine lt_pred (fun z58 e58 => ?_)
        have q58 : Kp ka kb (m + 8000) z58.2 := by rw [e58]; exact Kp.w (kp_m_single σ x1 hk (by omega)) (by omega)
        exact Kp.w q58 (by omega)
      · refine ite_pred (fun c7_3 => ?_) (fun c7_3 => ?_)
        · refine lt_pred (fun z64 e64 => ?_)
          have q64 : Kp ka kb m z64.2 := by rw [e64]; exact Kp.w (kp_m_pairs σ x1 hk (by omega)) (by omega)
          exact Kp.w q64 (by omega)
        · refine ite_pred (fun c7_4 => ?_) (fun c7_4 => ?_)
          · refine lt_pred (fun z70 e70 => ?_)
            have q70 : Kp ka kb (m + 4) z70.2 := by rw [e70]; exact Kp.w (kp_m_portBits σ x1 hk (by omega)) (by omega)
            exact Kp.w q70 (by omega)
          · refine lt_pred (fun s104 e104 => ?_)
            have q104 : Kp ka kb m s104 := by rw [e104]; exact Kp.w (kp_m_product σ ((σ 1 (((x1 >>> (4 : Int32)) &&& 31)).toNatClampNeg) * (σ 1 (((x1 &&& 15) ||| ((x1 >>> (5 : Int32)) &&& 16))).toNatClampNeg)) 0 hk (by omega)) (by omega)
            exact Kp.w q104 (by omega)

def m_instruction (σ : Sg) : Int32 × Sg :=
  lt (sst σ 0 36 (σ 0 0)) fun s5 =>
  lt (sst s5 0 1 0) fun s10 =>
  lt (m_next s10) fun z14 =>
  lt ((
    if (z14.1 >>> (10 : Int32)) < 12 then
      lt (m_ofTwo z14.2 z14.1) fun z29 =>
      (z29.1, z29.2)
    else
      if ((z14.1 >>> (12 : Int32)) < 8) ∨ ((z14.1 >>> (12 : Int32)) = 14) then
        lt (m_ofNumber z14.2 z14.1) fun z55 =>
        (z55.1, z55.2)
      else
        if (z14.1 >>> (12 : Int32)) = 9 then
          lt (m_nines z14.2 z14.1) fun z72 =>
          (z72.1, z72.2)
        else
          if (z14.1 &&& 53248) = 32768 then
            lt (m_displaced z14.2 z14.1) fun z91 =>
            (z91.1, z91.2)
          else
            if (z14.1 >>> (12 : Int32)) = 11 then
              lt (m_ports z14.2 z14.1) fun z108 =>
              (z108.1, z108.2)
            else
              if (z14.1 >>> (12 : Int32)) = 15 then
                lt (m_bits z14.2 z14.1) fun z125 =>
                (z125.1, z125.2)
              else
                lt (m_relative z14.2 z14.1) fun z133 =>
                (z133.1, z133.2)) : Int32 × Sg) fun z24 =>
  ((z24.1 + (z24.2 0 1)), z24.2)
set_option maxHeartbeats 4000000 in
theorem ok_m_instruction (σ : Sg) (ok : XOK σ) {B m : Int} (hk : HBm B m σ) (hm : m ≤ 1500210000) (hB : B ≤ 4294967290) : (Pri XOK 1 8004) (m_instruction σ) := by
  have hm0 : 0 ≤ m := hk.nn
  unfold m_instruction
  refine lt_pred (fun s5 e5 => ?_)
  have k5 : XOK s5 := by rw [e5]; exact xst_0_36 ok (xr0_0 ok)
  have q5 : HBm B m s5 := by rw [e5]; exact HBm.same hk rfl rfl rfl
  refine lt_pred (fun s10 e10 => ?_)
  have k10 : XOK s10 := by rw [e10]; exact xst_f0_1 k5
  have q10 : HBm B 0 s10 := by rw [e10]; exact HBm.z1 q5
  refine lt_pred (fun z14 e14 => ?_)
  have k14 : XOK z14.2 ∧ rg 0 65535 z14.1 := by rw [e14]; exact ok_m_next s10 k10
  have q14 : HBm B 0 z14.2 := by rw [e14]; exact HBm.w (HBm.kp q10 (kp_m_next s10 (ka := s10 0 20) (kb := s10 0 13) ⟨rfl, rfl, q10.2⟩ (by omega))) (by omega) (by omega)
  refine jn_pred (fun z24 => rg 1 4 z24.1 ∧ HBm B 8000 z24.2 ∧ XOK z24.2) (fun z24 h24 => ?_) ?_
  · exact ⟨h24.2.2, (rg_add h24.1 h24.2.1.2 (by decide) (by decide))⟩
  · refine ite_pred (fun c24 => ?_) (fun c24 => ?_)
    · refine lt_pred (fun z29 e29 => ?_)
      have k29 : XOK z29.2 ∧ rg 1 3 z29.1 := by rw [e29]; exact ok_m_ofTwo z14.2 z14.1 k14.1
      have q29 : HBm B 0 z29.2 := by rw [e29]; exact HBm.w (HBm.kp q14 (kp_m_ofTwo z14.2 z14.1 (ka := z14.2 0 20) (kb := z14.2 0 13) ⟨rfl, rfl, q14.2⟩ (by omega))) (by omega) (by omega)
      exact app_i ⟨(rg_w k29.2 (by decide) (by decide)), (HBm.w q29 (by omega) (by omega)), k29.1⟩
    · refine ite_pred (fun c41 => ?_) (fun c41 => ?_)
      · refine lt_pred (fun z55 e55 => ?_)
        have k55 : XOK z55.2 ∧ rg 1 1 z55.1 := by rw [e55]; exact ok_m_ofNumber z14.2 z14.1 k14.1
        have q55 : HBm B 0 z55.2 := by rw [e55]; exact HBm.w (HBm.kp q14 (kp_m_ofNumber z14.2 z14.1 (ka := z14.2 0 20) (kb := z14.2 0 13) ⟨rfl, rfl, q14.2⟩ (by omega))) (by omega) (by omega)
        exact app_i ⟨(rg_w k55.2 (by decide) (by decide)), (HBm.w q55 (by omega) (by omega)), k55.1⟩
      · refine ite_pred (fun c67 => ?_) (fun c67 => ?_)
        · refine lt_pred (fun z72 e72 => ?_)
          have k72 : XOK z72.2 ∧ rg 1 4 z72.1 := by rw [e72]; exact ok_m_nines z14.2 z14.1 k14.1
          have q72 : HBm B 8000 z72.2 := by rw [e72]; exact HBm.w (HBm.kp q14 (kp_m_nines z14.2 z14.1 (ka := z14.2 0 20) (kb := z14.2 0 13) ⟨rfl, rfl, q14.2⟩ (by omega))) (by omega) (by omega)
          exact app_i ⟨k72.2, (HBm.w q72 (by omega) (by omega)), k72.1⟩
        · refine ite_pred (fun c86 => ?_) (fun c86 => ?_)
          · refine lt_pred (fun z91 e91 => ?_)
            have k91 : XOK z91.2 ∧ rg 2 2 z91.1 := by rw [e91]; exact ok_m_displaced z14.2 z14.1 k14.1
            have q91 : HBm B 4 z91.2 := by rw [e91]; exact HBm.w (HBm.kp q14 (kp_m_displaced z14.2 z14.1 (ka := z14.2 0 20) (kb := z14.2 0 13) ⟨rfl, rfl, q14.2⟩ (by omega))) (by omega) (by omega)
            exact app_i ⟨(rg_w k91.2 (by decide) (by decide)), (HBm.w q91 (by omega) (by omega)), k91.1⟩
          · refine ite_pred (fun c103 => ?_) (fun c103 => ?_)
            · refine lt_pred (fun z108 e108 => ?_)
              have k108 : XOK z108.2 ∧ rg 1 1 z108.1 := by rw [e108]; exact ok_m_ports z14.2 z14.1 k14.1
              have q108 : HBm B 4 z108.2 := by rw [e108]; exact HBm.w (HBm.kp q14 (kp_m_ports z14.2 z14.1 (ka := z14.2 0 20) (kb := z14.2 0 13) ⟨rfl, rfl, q14.2⟩ (by omega))) (by omega) (by omega)
              exact app_i ⟨(rg_w k108.2 (by decide) (by decide)), (HBm.w q108 (by omega) (by omega)), k108.1⟩
            · refine ite_pred (fun c120 => ?_) (fun c120 => ?_)
              · refine lt_pred (fun z125 e125 => ?_)
                have k125 : XOK z125.2 ∧ rg 1 3 z125.1 := by rw [e125]; exact ok_m_bits z14.2 z14.1 k14.1
                have q125 : HBm B 0 z125.2 := by rw [e125]; exact HBm.w (HBm.kp q14 (kp_m_bits z14.2 z14.1 (ka := z14.2 0 20) (kb := z14.2 0 13) ⟨rfl, rfl, q14.2⟩ (by omega))) (by omega) (by omega)
                exact app_i ⟨(rg_w k125.2 (by decide) (by decide)), (HBm.w q125 (by omega) (by omega)), k125.1⟩
              · refine lt_pred (fun z133 e133 => ?_)
                have k133 : XOK z133.2 ∧ rg 2 3 z133.1 := by rw [e133]; exact ok_m_relative z14.2 z14.1 k14.1
                have q133 : HBm B 8 z133.2 := by rw [e133]; exact HBm.w (HBm.kp q14 (kp_m_relative z14.2 z14.1 (ka := z14.2 0 20) (kb := z14.2 0 13) ⟨rfl, rfl, q14.2⟩ (by omega))) (by omega) (by omega)
                exact app_i ⟨(rg_w k133.2 (by decide) (by decide)), (HBm.w q133 (by omega) (by omega)), k133.1⟩

set_option maxHeartbeats 4000000 in
theorem kp_m_instruction (σ : Sg) {ka kb : Int32} {m : Int} (hk : Kp ka kb m σ) (hm : m ≤ 1500210000) : Kp ka kb 8000 (m_instruction σ).2 := by
  have hm0 : 0 ≤ m := hk.nn
  show Kpi ka kb 8000 (m_instruction σ)
  unfold m_instruction
  refine lt_pred (fun s5 e5 => ?_)
  have q5 : Kp ka kb m s5 := by rw [e5]; exact Kp.same hk rfl rfl rfl
  refine lt_pred (fun s10 e10 => ?_)
  have q10 : Kp ka kb 0 s10 := by rw [e10]; exact Kp.z1 q5
  refine lt_pred (fun z14 e14 => ?_)
  have q14 : Kp ka kb 0 z14.2 := by rw [e14]; exact Kp.w (kp_m_next s10 q10 (by omega)) (by omega)
  refine jn_pred (fun z24 => Kp ka kb 8000 z24.2) (fun z24 h24 => ?_) ?_
  · exact Kp.w h24 (by omega)
  · refine ite_pred (fun c24 => ?_) (fun c24 => ?_)
    · refine lt_pred (fun z29 e29 => ?_)
      have q29 : Kp ka kb 0 z29.2 := by rw [e29]; exact Kp.w (kp_m_ofTwo z14.2 z14.1 q14 (by omega)) (by omega)
      exact app_i (Kp.w q29 (by omega))
    · refine ite_pred (fun c41 => ?_) (fun c41 => ?_)
      · refine lt_pred (fun z55 e55 => ?_)
        have q55 : Kp ka kb 0 z55.2 := by rw [e55]; exact Kp.w (kp_m_ofNumber z14.2 z14.1 q14 (by omega)) (by omega)
        exact app_i (Kp.w q55 (by omega))
      · refine ite_pred (fun c67 => ?_) (fun c67 => ?_)
        · refine lt_pred (fun z72 e72 => ?_)
          have q72 : Kp ka kb 8000 z72.2 := by rw [e72]; exact Kp.w (kp_m_nines z14.2 z14.1 q14 (by omega)) (by omega)
          exact app_i (Kp.w q72 (by omega))
        · refine ite_pred (fun c86 => ?_) (fun c86 => ?_)
          · refine lt_pred (fun z91 e91 => ?_)
            have q91 : Kp ka kb 4 z91.2 := by rw [e91]; exact Kp.w (kp_m_displaced z14.2 z14.1 q14 (by omega)) (by omega)
            exact app_i (Kp.w q91 (by omega))
          · refine ite_pred (fun c103 => ?_) (fun c103 => ?_)
            · refine lt_pred (fun z108 e108 => ?_)
              have q108 : Kp ka kb 4 z108.2 := by rw [e108]; exact Kp.w (kp_m_ports z14.2 z14.1 q14 (by omega)) (by omega)
              exact app_i (Kp.w q108 (by omega))
            · refine ite_pred (fun c120 => ?_) (fun c120 => ?_)
              · refine lt_pred (fun z125 e125 => ?_)
                have q125 : Kp ka kb 0 z125.2 := by rw [e125]; exact Kp.w (kp_m_bits z14.2 z14.1 q14 (by omega)) (by omega)
                exact app_i (Kp.w q125 (by omega))
              · refine lt_pred (fun z133 e133 => ?_)
                have q133 : Kp ka kb 8 z133.2 := by rw [e133]; exact Kp.w (kp_m_relative z14.2 z14.1 q14 (by omega)) (by omega)
                exact app_i (Kp.w q133 (by omega))

