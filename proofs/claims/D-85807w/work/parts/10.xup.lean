/-! UNITS: pure functions and their invariant -/
set_option maxRecDepth 100000
def x4_load (σ : Sg) (x1 : Int32) : Int32 :=
  (((σ 1 37) &&& (σ 1 36)) ||| (((σ 0 9) &&& ((σ 1 36) ^^^ (-1))) &&& 255))
set_option maxHeartbeats 4000000 in
theorem ok_x4_load (σ : Sg) (x1 : Int32) (ok : XOK σ) : rg 0 255 (x4_load σ x1) := by
  unfold x4_load
  exact (rg_or 8 (rg_and_r (xr_1 ok _)) (rg_and_r (rg_w (lo2 := 0) rl_255 (by decide) (Int.le_refl _))) (by decide) (by decide) (by decide))

def x4_store (σ : Sg) (x1 : Int32) (x2 : Int32) : Sg :=
  lt (sst σ 1 37 ((σ 1 37) ^^^ x2)) fun s13 =>
  s13
set_option maxHeartbeats 4000000 in
theorem ok_x4_store (σ : Sg) (x1 : Int32) (x2 : Int32) (ok : XOK σ) (hx2 : rg 0 255 x2) : XOK (x4_store σ x1 x2) := by
  unfold x4_store
  refine lt_pred (fun s13 e13 => ?_)
  have k13 : XOK s13 := by rw [e13]; exact xst_1 ok (rg_xor 8 (xr_1 ok _) hx2 (by decide) (by decide) (by decide))
  exact k13

set_option maxHeartbeats 4000000 in
theorem kp_x4_store (σ : Sg) (x1 : Int32) (x2 : Int32) {ka kb : Int32} {m : Int} (hk : Kp ka kb m σ) (hm : m ≤ 1500290000) : Kp ka kb m (x4_store σ x1 x2) := by
  have hm0 : 0 ≤ m := hk.nn
  show Kp ka kb m (x4_store σ x1 x2)
  unfold x4_store
  refine lt_pred (fun s13 e13 => ?_)
  have q13 : Kp ka kb m s13 := by rw [e13]; exact Kp.same hk rfl rfl rfl
  exact Kp.w q13 (by omega)

def x4_clear (σ : Sg) : Sg :=
  σ
set_option maxHeartbeats 4000000 in
theorem ok_x4_clear (σ : Sg) (ok : XOK σ) : XOK (x4_clear σ) := by
  unfold x4_clear
  exact ok

set_option maxHeartbeats 4000000 in
theorem kp_x4_clear (σ : Sg) {ka kb : Int32} {m : Int} (hk : Kp ka kb m σ) (hm : m ≤ 1500290000) : Kp ka kb m (x4_clear σ) := by
  have hm0 : 0 ≤ m := hk.nn
  show Kp ka kb m (x4_clear σ)
  unfold x4_clear
  exact Kp.w hk (by omega)

def x11_clear (σ : Sg) : Sg :=
  σ
set_option maxHeartbeats 4000000 in
theorem ok_x11_clear (σ : Sg) (ok : XOK σ) : XOK (x11_clear σ) := by
  unfold x11_clear
  exact ok

set_option maxHeartbeats 4000000 in
theorem kp_x11_clear (σ : Sg) {ka kb : Int32} {m : Int} (hk : Kp ka kb m σ) (hm : m ≤ 1500290000) : Kp ka kb m (x11_clear σ) := by
  have hm0 : 0 ≤ m := hk.nn
  show Kp ka kb m (x11_clear σ)
  unfold x11_clear
  exact Kp.w hk (by omega)

def x5_store (σ : Sg) (x1 : Int32) (x2 : Int32) : Sg :=
  lt (sst σ 1 53 ((σ 1 53) &&& ((x2 ^^^ (-1)) &&& 3))) fun s17 =>
  s17
set_option maxHeartbeats 4000000 in
theorem ok_x5_store (σ : Sg) (x1 : Int32) (x2 : Int32) (ok : XOK σ) : XOK (x5_store σ x1 x2) := by
  unfold x5_store
  refine lt_pred (fun s17 e17 => ?_)
  have k17 : XOK s17 := by rw [e17]; exact xst_1 ok (rg_w (rg_and_r (rg_and_r (rg_w (lo2 := 0) rl_3 (by decide) (Int.le_refl _)))) (by decide) (by decide))
  exact k17

set_option maxHeartbeats 4000000 in
theorem kp_x5_store (σ : Sg) (x1 : Int32) (x2 : Int32) {ka kb : Int32} {m : Int} (hk : Kp ka kb m σ) (hm : m ≤ 1500290000) : Kp ka kb m (x5_store σ x1 x2) := by
  have hm0 : 0 ≤ m := hk.nn
  show Kp ka kb m (x5_store σ x1 x2)
  unfold x5_store
  refine lt_pred (fun s17 e17 => ?_)
  have q17 : Kp ka kb m s17 := by rw [e17]; exact Kp.same hk rfl rfl rfl
  exact Kp.w q17 (by omega)

def x5_ticks (σ : Sg) : Int32 :=
  lt (((σ 1 69) &&& 7) : Int32) fun v13 =>
  if v13 = 1 then
    1
  else
    if v13 = 2 then
      lt ((
        if ((σ 0 10) &&& 7) = 0 then
          1
        else
          0) : Int32) fun z57 =>
      z57
    else
      if v13 = 3 then
        lt ((
          if ((σ 0 10) &&& 63) = 0 then
            1
          else
            0) : Int32) fun z73 =>
        z73
      else
        if v13 = 4 then
          lt ((
            if ((σ 0 10) &&& 255) = 0 then
              1
            else
              0) : Int32) fun z90 =>
          z90
        else
          if v13 = 5 then
            lt ((
              if (σ 0 10) = 0 then
                1
              else
                0) : Int32) fun z103 =>
            z103
          else
            0
set_option maxHeartbeats 4000000 in
theorem ok_x5_ticks (σ : Sg) (ok : XOK σ) : rg 0 1 (x5_ticks σ) := by
  unfold x5_ticks
  refine lt_pred (fun v13 e13 => ?_)
  have f13 : rg 0 7 v13 := by rw [e13]; exact (rg_and_r (rg_w (lo2 := 0) rl_7 (by decide) (Int.le_refl _)))
  refine ite_pred (fun c13_1 => ?_) (fun c13_1 => ?_)
  · exact (rg_w rl_1 (by decide) (by decide))
  · refine ite_pred (fun c13_2 => ?_) (fun c13_2 => ?_)
    · refine jn_pred (fun z57 => rg 0 1 z57) (fun z57 h57 => ?_) ?_
      · exact h57
      · refine ite_pred (fun c57 => ?_) (fun c57 => ?_)
        · exact app_i (rg_w rl_1 (by decide) (by decide))
        · exact app_i (rg_w rl_0 (by decide) (by decide))
    · refine ite_pred (fun c13_3 => ?_) (fun c13_3 => ?_)
      · refine jn_pred (fun z73 => rg 0 1 z73) (fun z73 h73 => ?_) ?_
        · exact h73
        · refine ite_pred (fun c73 => ?_) (fun c73 => ?_)
          · exact app_i (rg_w rl_1 (by decide) (by decide))
          · exact app_i (rg_w rl_0 (by decide) (by decide))
      · refine ite_pred (fun c13_4 => ?_) (fun c13_4 => ?_)
        · refine jn_pred (fun z90 => rg 0 1 z90) (fun z90 h90 => ?_) ?_
          · exact h90
          · refine ite_pred (fun c90 => ?_) (fun c90 => ?_)
            · exact app_i (rg_w rl_1 (by decide) (by decide))
            · exact app_i (rg_w rl_0 (by decide) (by decide))
        · refine ite_pred (fun c13_5 => ?_) (fun c13_5 => ?_)
          · refine jn_pred (fun z103 => rg 0 1 z103) (fun z103 h103 => ?_) ?_
            · exact h103
            · refine ite_pred (fun c103 => ?_) (fun c103 => ?_)
              · exact app_i (rg_w rl_1 (by decide) (by decide))
              · exact app_i (rg_w rl_0 (by decide) (by decide))
          · exact (rg_w rl_0 (by decide) (by decide))

def x5_cycle (σ : Sg) : Sg :=
  lt (sst σ 0 10 (((σ 0 10) + 1) &&& 1023)) fun s11 =>
  if (x5_ticks s11) = 0 then
    s11
  else
    lt ((
      if (((s11 1 68) &&& 2) = 0) ∨ (¬ ((s11 1 70) = (s11 1 71))) then
        lt (sst s11 1 70 (((s11 1 70) + 1) &&& 255)) fun s71 =>
        if (s71 1 70) = 0 then
          lt (sst s71 1 53 ((s71 1 53) ||| 1)) fun s86 =>
          s86
        else
          s71
      else
        lt (sst s11 1 70 0) fun s54 =>
        s54) : Sg) fun z36 =>
    lt ((
      if (z36 1 70) = (z36 1 71) then
        lt (sst z36 1 53 ((z36 1 53) ||| 2)) fun s105 =>
        s105
      else
        z36) : Sg) fun z95 =>
    z95
set_option maxHeartbeats 4000000 in
theorem ok_x5_cycle (σ : Sg) (ok : XOK σ) : XOK (x5_cycle σ) := by
  unfold x5_cycle
  refine lt_pred (fun s11 e11 => ?_)
  have k11 : XOK s11 := by rw [e11]; exact xst_f0_10 ok
  refine ite_pred (fun c18 => ?_) (fun c18 => ?_)
  · exact k11
  · refine jn_pred (fun z36 => XOK z36) (fun z36 h36 => ?_) ?_
    · refine jn_pred (fun z95 => XOK z95) (fun z95 h95 => ?_) ?_
      · exact h95
      · refine ite_pred (fun c95 => ?_) (fun c95 => ?_)
        · refine lt_pred (fun s105 e105 => ?_)
          have k105 : XOK s105 := by rw [e105]; exact xst_1 h36 (rg_or 8 (xr_1 h36 _) (rg_w (lo2 := 0) rl_2 (by decide) (Int.le_refl _)) (by decide) (by decide) (by decide))
          exact app_i k105
        · exact app_i h36
    · refine ite_pred (fun c36 => ?_) (fun c36 => ?_)
      · refine lt_pred (fun s71 e71 => ?_)
        have k71 : XOK s71 := by rw [e71]; exact xst_1 k11 (rg_and_r (rg_w (lo2 := 0) rl_255 (by decide) (Int.le_refl _)))
        refine ite_pred (fun c76 => ?_) (fun c76 => ?_)
        · refine lt_pred (fun s86 e86 => ?_)
          have k86 : XOK s86 := by rw [e86]; exact xst_1 k71 (rg_or 8 (xr_1 k71 _) (rg_w (lo2 := 0) rl_1 (by decide) (Int.le_refl _)) (by decide) (by decide) (by decide))
          exact app_i k86
        · exact app_i k71
      · refine lt_pred (fun s54 e54 => ?_)
        have k54 : XOK s54 := by rw [e54]; exact xst_1 k11 (rg_w rl_0 (by decide) (by decide))
        exact app_i k54

set_option maxHeartbeats 4000000 in
theorem kp_x5_cycle (σ : Sg) {ka kb : Int32} {m : Int} (hk : Kp ka kb m σ) (hm : m ≤ 1500280000) : Kp ka kb m (x5_cycle σ) := by
  have hm0 : 0 ≤ m := hk.nn
  show Kp ka kb m (x5_cycle σ)
  unfold x5_cycle
  refine lt_pred (fun s11 e11 => ?_)
  have q11 : Kp ka kb m s11 := by rw [e11]; exact Kp.same hk rfl rfl rfl
  refine ite_pred (fun c18 => ?_) (fun c18 => ?_)
  · exact Kp.w q11 (by omega)
  · refine jn_pred (fun z36 => Kp ka kb m z36) (fun z36 h36 => ?_) ?_
    · refine jn_pred (fun z95 => Kp ka kb m z95) (fun z95 h95 => ?_) ?_
      · exact Kp.w h95 (by omega)
      · refine ite_pred (fun c95 => ?_) (fun c95 => ?_)
        · refine lt_pred (fun s105 e105 => ?_)
          have q105 : Kp ka kb m s105 := by rw [e105]; exact Kp.same h36 rfl rfl rfl
          exact app_i (Kp.w q105 (by omega))
        · exact app_i (Kp.w h36 (by omega))
    · refine ite_pred (fun c36 => ?_) (fun c36 => ?_)
      · refine lt_pred (fun s71 e71 => ?_)
        have q71 : Kp ka kb m s71 := by rw [e71]; exact Kp.same q11 rfl rfl rfl
        refine ite_pred (fun c76 => ?_) (fun c76 => ?_)
        · refine lt_pred (fun s86 e86 => ?_)
          have q86 : Kp ka kb m s86 := by rw [e86]; exact Kp.same q71 rfl rfl rfl
          exact app_i (Kp.w q86 (by omega))
        · exact app_i (Kp.w q71 (by omega))
      · refine lt_pred (fun s54 e54 => ?_)
        have q54 : Kp ka kb m s54 := by rw [e54]; exact Kp.same q11 rfl rfl rfl
        exact app_i (Kp.w q54 (by omega))

def x5_clear (σ : Sg) : Sg :=
  lt (sst σ 0 10 0) fun s2 =>
  s2
set_option maxHeartbeats 4000000 in
theorem ok_x5_clear (σ : Sg) (ok : XOK σ) : XOK (x5_clear σ) := by
  unfold x5_clear
  refine lt_pred (fun s2 e2 => ?_)
  have k2 : XOK s2 := by rw [e2]; exact xst_f0_10 ok
  exact k2

set_option maxHeartbeats 4000000 in
theorem kp_x5_clear (σ : Sg) {ka kb : Int32} {m : Int} (hk : Kp ka kb m σ) (hm : m ≤ 1500290000) : Kp ka kb m (x5_clear σ) := by
  have hm0 : 0 ≤ m := hk.nn
  show Kp ka kb m (x5_clear σ)
  unfold x5_clear
  refine lt_pred (fun s2 e2 => ?_)
  have q2 : Kp ka kb m s2 := by rw [e2]; exact Kp.same hk rfl rfl rfl
  exact Kp.w q2 (by omega)

def x6_state (σ : Sg) : Int32 :=
  lt ((
    if 0 < (σ 0 18) then
      128
    else
      0) : Int32) fun z4 =>
  lt ((
    if (σ 0 32) = 0 then
      0
    else
      64) : Int32) fun z18 =>
  lt ((
    if (σ 0 11) < 0 then
      32
    else
      0) : Int32) fun z32 =>
  lt ((
    if (σ 0 31) = 0 then
      0
    else
      8) : Int32) fun z46 =>
  lt ((
    if (σ 0 33) = 0 then
      0
    else
      2) : Int32) fun z60 =>
  ((((z4 ||| z18) ||| z32) ||| z46) ||| z60)
set_option maxHeartbeats 4000000 in
theorem ok_x6_state (σ : Sg) (ok : XOK σ) : rg 0 255 (x6_state σ) := by
  unfold x6_state
  refine jn_pred (fun z4 => rg 0 128 z4) (fun z4 h4 => ?_) ?_
  · refine jn_pred (fun z18 => rg 0 64 z18) (fun z18 h18 => ?_) ?_
    · refine jn_pred (fun z32 => rg 0 32 z32) (fun z32 h32 => ?_) ?_
      · refine jn_pred (fun z46 => rg 0 8 z46) (fun z46 h46 => ?_) ?_
        · refine jn_pred (fun z60 => rg 0 2 z60) (fun z60 h60 => ?_) ?_
          · exact (rg_or 8 (rg_or 8 (rg_or 8 (rg_or 8 h4 h18 (by decide) (by decide) (by decide)) h32 (by decide) (by decide) (by decide)) h46 (by decide) (by decide) (by decide)) h60 (by decide) (by decide) (by decide))
          · refine ite_pred (fun c60 => ?_) (fun c60 => ?_)
            · exact app_i (rg_w rl_0 (by decide) (by decide))
            · exact app_i (rg_w rl_2 (by decide) (by decide))
        · refine ite_pred (fun c46 => ?_) (fun c46 => ?_)
          · exact app_i (rg_w rl_0 (by decide) (by decide))
          · exact app_i (rg_w rl_8 (by decide) (by decide))
      · refine ite_pred (fun c32 => ?_) (fun c32 => ?_)
        · exact app_i (rg_w rl_32 (by decide) (by decide))
        · exact app_i (rg_w rl_0 (by decide) (by decide))
    · refine ite_pred (fun c18 => ?_) (fun c18 => ?_)
      · exact app_i (rg_w rl_0 (by decide) (by decide))
      · exact app_i (rg_w rl_64 (by decide) (by decide))
  · refine ite_pred (fun c4 => ?_) (fun c4 => ?_)
    · exact app_i (rg_w rl_128 (by decide) (by decide))
    · exact app_i (rg_w rl_0 (by decide) (by decide))

def x6_load (σ : Sg) (x1 : Int32) : Int32 × Sg :=
  lt ((x6_state σ) : Int32) fun v4 =>
  if x1 = 192 then
    (v4, σ)
  else
    lt ((
      if 0 < (σ 0 18) then
        (σ 0 16)
      else
        0) : Int32) fun z18 =>
    lt ((
      if 0 < (σ 0 18) then
        lt (sst σ 0 16 (σ 0 17)) fun s42 =>
        lt (sst s42 0 18 ((s42 0 18) - 1)) fun s52 =>
        s52
      else
        σ) : Sg) fun z34 =>
    lt (sst z34 0 31 0) fun s57 =>
    (z18, s57)
set_option maxHeartbeats 4000000 in
theorem ok_x6_load (σ : Sg) (x1 : Int32) (ok : XOK σ) : (Pri XOK 0 255) (x6_load σ x1) := by
  unfold x6_load
  refine lt_pred (fun v4 e4 => ?_)
  have f4 : rg 0 255 v4 := by rw [e4]; exact (ok_x6_state σ ok)
  refine ite_pred (fun c9 => ?_) (fun c9 => ?_)
  · exact ⟨ok, f4⟩
  · refine jn_pred (fun z18 => rg 0 255 z18) (fun z18 h18 => ?_) ?_
    · refine jn_pred (fun z34 => XOK z34) (fun z34 h34 => ?_) ?_
      · refine lt_pred (fun s57 e57 => ?_)
        have k57 : XOK s57 := by rw [e57]; exact xst_0_31 h34 (rg_w rl_0 (by decide) (by decide))
        exact ⟨k57, h18⟩
      · refine ite_pred (fun c34 => ?_) (fun c34 => ?_)
        · refine lt_pred (fun s42 e42 => ?_)
          have k42 : XOK s42 := by rw [e42]; exact xst_0_16 ok (xr0_17 ok)
          have y18_42 : rg 1 2 (s42 0 18) := by rw [e42]; exact (show rg 1 2 (σ 0 18) from (rg_lt_lo (xr0_18 ok) c34 rl_0))
          refine lt_pred (fun s52 e52 => ?_)
          have k52 : XOK s52 := by rw [e52]; exact xst_0_18 k42 (rg_w (rg_sub y18_42 rl_1 (by decide) (by decide)) (by decide) (by decide))
          exact app_i k52
        · exact app_i ok
    · refine ite_pred (fun c18 => ?_) (fun c18 => ?_)
      · exact app_i (xr0_16 ok)
      · exact app_i (rg_w rl_0 (by decide) (by decide))

set_option maxHeartbeats 4000000 in
theorem kp_x6_load (σ : Sg) (x1 : Int32) {ka kb : Int32} {m : Int} (hk : Kp ka kb m σ) (hm : m ≤ 1500280000) : Kp ka kb m (x6_load σ x1).2 := by
  have hm0 : 0 ≤ m := hk.nn
  show Kpi ka kb m (x6_load σ x1)
  unfold x6_load
  refine lt_pred (fun v4 e4 => ?_)
  refine ite_pred (fun c9 => ?_) (fun c9 => ?_)
  · exact Kp.w hk (by omega)
  · refine jn_pred (fun z18 => True) (fun z18 h18 => ?_) ?_
    · refine jn_pred (fun z34 => Kp ka kb m z34) (fun z34 h34 => ?_) ?_
      · refine lt_pred (fun s57 e57 => ?_)
        have q57 : Kp ka kb m s57 := by rw [e57]; exact Kp.same h34 rfl rfl rfl
        exact Kp.w q57 (by omega)
      · refine ite_pred (fun c34 => ?_) (fun c34 => ?_)
        · refine lt_pred (fun s42 e42 => ?_)
          have q42 : Kp ka kb m s42 := by rw [e42]; exact Kp.same hk rfl rfl rfl
          refine lt_pred (fun s52 e52 => ?_)
          have q52 : Kp ka kb m s52 := by rw [e52]; exact Kp.same q42 rfl rfl rfl
          exact app_i (Kp.w q52 (by omega))
        · exact app_i (Kp.w hk (by omega))
    · refine ite_pred (fun c18 => ?_) (fun c18 => ?_)
      · exact app_i trivial
      · exact app_i trivial

def x6_store (σ : Sg) (x1 : Int32) (x2 : Int32) : Sg :=
  lt ((
    if x1 = 192 then
      lt ((
        if (x2 &&& 2) = 0 then
          0
        else
          1) : Int32) fun z11 =>
      lt (sst σ 0 33 z11) fun s19 =>
      if (x2 &&& 64) = 0 then
        s19
      else
        lt (sst s19 0 32 0) fun s31 =>
        s31
    else
      if x1 = 193 then
        lt (sst σ 1 193 x2) fun s55 =>
        if (x2 &&& 8) = 0 then
          lt (sst s55 0 11 (-1)) fun s65 =>
          s65
        else
          s55
      else
        if (¬ (((σ 1 193) &&& 8) = 0)) ∧ ((σ 0 11) < 0) then
          lt (sst σ 0 11 x2) fun s97 =>
          s97
        else
          σ) : Sg) fun z4 =>
  z4
set_option maxHeartbeats 4000000 in
theorem ok_x6_store (σ : Sg) (x1 : Int32) (x2 : Int32) (ok : XOK σ) (hx2 : rg 0 255 x2) : XOK (x6_store σ x1 x2) := by
  unfold x6_store
  refine jn_pred (fun z4 => XOK z4) (fun z4 h4 => ?_) ?_
  · exact h4
  · refine ite_pred (fun c4 => ?_) (fun c4 => ?_)
    · refine jn_pred (fun z11 => rg 0 1 z11) (fun z11 h11 => ?_) ?_
      · refine lt_pred (fun s19 e19 => ?_)
        have k19 : XOK s19 := by rw [e19]; exact xst_0_33 ok h11
        refine ite_pred (fun c26 => ?_) (fun c26 => ?_)
        · exact app_i k19
        · refine lt_pred (fun s31 e31 => ?_)
          have k31 : XOK s31 := by rw [e31]; exact xst_0_32 k19 (rg_w rl_0 (by decide) (by decide))
          exact app_i k31
      · refine ite_pred (fun c11 => ?_) (fun c11 => ?_)
        · exact app_i (rg_w rl_0 (by decide) (by decide))
        · exact app_i (rg_w rl_1 (by decide) (by decide))
    · refine ite_pred (fun c41 => ?_) (fun c41 => ?_)
      · refine lt_pred (fun s55 e55 => ?_)
        have k55 : XOK s55 := by rw [e55]; exact xst_1 ok hx2
        refine ite_pred (fun c60 => ?_) (fun c60 => ?_)
        · refine lt_pred (fun s65 e65 => ?_)
          have k65 : XOK s65 := by rw [e65]; exact xst_0_11 k55 (rg_w rl_m1 (by decide) (by decide))
          exact app_i k65
        · exact app_i k55
      · refine ite_pred (fun c85 => ?_) (fun c85 => ?_)
        · refine lt_pred (fun s97 e97 => ?_)
          have k97 : XOK s97 := by rw [e97]; exact xst_0_11 ok (rg_w hx2 (by decide) (by decide))
          exact app_i k97
        · exact app_i ok

set_option maxHeartbeats 4000000 in
theorem kp_x6_store (σ : Sg) (x1 : Int32) (x2 : Int32) {ka kb : Int32} {m : Int} (hk : Kp ka kb m σ) (hm : m ≤ 1500290000) : Kp ka kb m (x6_store σ x1 x2) := by
  have hm0 : 0 ≤ m := hk.nn
  show Kp ka kb m (x6_store σ x1 x2)
  unfold x6_store
  refine jn_pred (fun z4 => Kp ka kb m z4) (fun z4 h4 => ?_) ?_
  · exact Kp.w h4 (by omega)
  · refine ite_pred (fun c4 => ?_) (fun c4 => ?_)
    · refine jn_pred (fun z11 => True) (fun z11 h11 => ?_) ?_
      · refine lt_pred (fun s19 e19 => ?_)
        have q19 : Kp ka kb m s19 := by rw [e19]; exact Kp.same hk rfl rfl rfl
        refine ite_pred (fun c26 => ?_) (fun c26 => ?_)
        · exact app_i (Kp.w q19 (by omega))
        · refine lt_pred (fun s31 e31 => ?_)
          have q31 : Kp ka kb m s31 := by rw [e31]; exact Kp.same q19 rfl rfl rfl
          exact app_i (Kp.w q31 (by omega))
      · refine ite_pred (fun c11 => ?_) (fun c11 => ?_)
        · exact app_i trivial
        · exact app_i trivial
    · refine ite_pred (fun c41 => ?_) (fun c41 => ?_)
      · refine lt_pred (fun s55 e55 => ?_)
        have q55 : Kp ka kb m s55 := by rw [e55]; exact Kp.same hk rfl rfl rfl
        refine ite_pred (fun c60 => ?_) (fun c60 => ?_)
        · refine lt_pred (fun s65 e65 => ?_)
          have q65 : Kp ka kb m s65 := by rw [e65]; exact Kp.same q55 rfl rfl rfl
          exact app_i (Kp.w q65 (by omega))
        · exact app_i (Kp.w q55 (by omega))
      · refine ite_pred (fun c85 => ?_) (fun c85 => ?_)
        · refine lt_pred (fun s97 e97 => ?_)
          have q97 : Kp ka kb m s97 := by rw [e97]; exact Kp.same hk rfl rfl rfl
          exact app_i (Kp.w q97 (by omega))
        · exact app_i (Kp.w hk (by omega))

def x6_frame (σ : Sg) : Int32 :=
  lt ((
    if (σ 0 33) = 0 then
      160
    else
      80) : Int32) fun z33 =>
  lt ((
    if (σ 0 33) = 0 then
      160
    else
      80) : Int32) fun z49 =>
  ((((((σ 1 197) &&& 15) <<< (8 : Int32)) ||| (σ 1 196)) * z33) + z49)
set_option maxHeartbeats 4000000 in
theorem ok_x6_frame (σ : Sg) (ok : XOK σ) : rg 80 655360 (x6_frame σ) := by
  unfold x6_frame
  refine jn_pred (fun z33 => rg 80 160 z33) (fun z33 h33 => ?_) ?_
  · refine jn_pred (fun z49 => rg 80 160 z49) (fun z49 h49 => ?_) ?_
    · exact (rg_add (rg_mul (rg_or 12 (rg_shl 8 (by decide +kernel) (rg_and_r (rg_w (lo2 := 0) rl_15 (by decide) (Int.le_refl _))) (by decide)) (xr_1 ok _) (by decide) (by decide) (by decide)) (rg_w (lo2 := 0) h33 (by decide) (Int.le_refl _)) (by decide)) h49 (by decide) (by decide))
    · refine ite_pred (fun c49 => ?_) (fun c49 => ?_)
      · exact app_i (rg_w rl_160 (by decide) (by decide))
      · exact app_i (rg_w rl_80 (by decide) (by decide))
  · refine ite_pred (fun c33 => ?_) (fun c33 => ?_)
    · exact app_i (rg_w rl_160 (by decide) (by decide))
    · exact app_i (rg_w rl_80 (by decide) (by decide))

def x6_receive (σ : Sg) : Sg :=
  if (σ 0 15) = 0 then
    if (σ 0 19) = 0 then
      σ
    else
      lt (sst σ 0 14 (σ 6 ((σ 0 34)).toNatClampNeg)) fun s25 =>
      lt (sst s25 0 34 ((((s25 0 34) + 1)) - (((s25 0 34) + 1)) / (300) * (300))) fun s39 =>
      lt (sst s39 0 19 ((s39 0 19) - 1)) fun s49 =>
      lt (sst s49 0 15 (x6_frame s49)) fun s57 =>
      s57
  else
    lt (sst σ 0 15 ((σ 0 15) - 1)) fun s68 =>
    if (0 < (s68 0 15)) ∨ (((s68 1 193) &&& 16) = 0) then
      s68
    else
      lt ((
        if (s68 0 18) = 2 then
          lt (sst s68 0 31 1) fun s106 =>
          s106
        else
          lt ((
            if (s68 0 18) = 0 then
              lt (sst s68 0 16 (s68 0 14)) fun s124 =>
              s124
            else
              lt (sst s68 0 17 (s68 0 14)) fun s135 =>
              s135) : Sg) fun z116 =>
          lt (sst z116 0 18 ((z116 0 18) + 1)) fun s145 =>
          s145) : Sg) fun z101 =>
      z101
set_option maxHeartbeats 4000000 in
theorem ok_x6_receive (σ : Sg) (ok : XOK σ) : XOK (x6_receive σ) := by
  unfold x6_receive
  refine ite_pred (fun c4 => ?_) (fun c4 => ?_)
  · refine ite_pred (fun c11 => ?_) (fun c11 => ?_)
    · exact ok
    · refine lt_pred (fun s25 e25 => ?_)
      have k25 : XOK s25 := by rw [e25]; exact xst_0_14 ok (xr_6 ok _)
      have y15_25 : rg 0 0 (s25 0 15) := by rw [e25]; exact (show rg 0 0 (σ 0 15) from (rg_eq c4 rl_0))
      have y19_25 : rg 1 300 (s25 0 19) := by rw [e25]; exact (show rg 1 300 (σ 0 19) from (rg_ne_lo (xr0_19 ok) c11 (by decide +kernel)))
      refine lt_pred (fun s39 e39 => ?_)
      have k39 : XOK s39 := by rw [e39]; exact xst_0_34 k25 (rg_rem 300 (by decide) (by decide) (rg_w (lo2 := 0) (rg_add (xr0_34 k25) rl_1 (by decide) (by decide)) (by decide) (Int.le_refl _)))
      have y15_39 : rg 0 0 (s39 0 15) := by rw [e39]; exact (show rg 0 0 (s25 0 15) from y15_25)
      have y19_39 : rg 1 300 (s39 0 19) := by rw [e39]; exact (show rg 1 300 (s25 0 19) from y19_25)
      refine lt_pred (fun s49 e49 => ?_)
      have k49 : XOK s49 := by rw [e49]; exact xst_0_19 k39 (rg_w (rg_sub y19_39 rl_1 (by decide) (by decide)) (by decide) (by decide))
      have y15_49 : rg 0 0 (s49 0 15) := by rw [e49]; exact (show rg 0 0 (s39 0 15) from y15_39)
      have y19_49 : rg 0 299 (s49 0 19) := by rw [e49]; exact (show rg 0 299 ((s39 0 19) - 1) from (rg_sub y19_39 rl_1 (by decide) (by decide)))
      refine lt_pred (fun s57 e57 => ?_)
      have k57 : XOK s57 := by rw [e57]; exact xst_f0_15 k49
      have y19_57 : rg 0 299 (s57 0 19) := by rw [e57]; exact (show rg 0 299 (s49 0 19) from y19_49)
      exact k57
  · refine lt_pred (fun s68 e68 => ?_)
    have k68 : XOK s68 := by rw [e68]; exact xst_f0_15 ok
    refine ite_pred (fun c75 => ?_) (fun c75 => ?_)
    · exact k68
    · refine jn_pred (fun z101 => XOK z101 ∧ rg (-2147483648) 0 (z101 0 15)) (fun z101 h101 => ?_) ?_
      · exact h101.1
      · refine ite_pred (fun c101 => ?_) (fun c101 => ?_)
        · refine lt_pred (fun s106 e106 => ?_)
          have k106 : XOK s106 := by rw [e106]; exact xst_0_31 k68 (rg_w rl_1 (by decide) (by decide))
          have y15_106 : rg (-2147483648) 0 (s106 0 15) := by rw [e106]; exact (show rg (-2147483648) 0 (s68 0 15) from (rg_nlt_hi (rg_full (s68 0 15)) (fun w8 => c75 (Or.inl w8)) rl_0))
          have y18_106 : rg 2 2 (s106 0 18) := by rw [e106]; exact (show rg 2 2 (s68 0 18) from (rg_eq c101 rl_2))
          exact app_i ⟨k106, (rg_w y15_106 (by decide) (by decide))⟩
        · refine jn_pred (fun z116 => XOK z116 ∧ rg (-2147483648) 0 (z116 0 15) ∧ rg 0 1 (z116 0 18)) (fun z116 h116 => ?_) ?_
          · refine lt_pred (fun s145 e145 => ?_)
            have k145 : XOK s145 := by rw [e145]; exact xst_0_18 h116.1 (rg_w (rg_add h116.2.2 rl_1 (by decide) (by decide)) (by decide) (by decide))
            have y15_145 : rg (-2147483648) 0 (s145 0 15) := by rw [e145]; exact (show rg (-2147483648) 0 (z116 0 15) from h116.2.1)
            exact app_i ⟨k145, (rg_w y15_145 (by decide) (by decide))⟩
          · refine ite_pred (fun c116 => ?_) (fun c116 => ?_)
            · refine lt_pred (fun s124 e124 => ?_)
              have k124 : XOK s124 := by rw [e124]; exact xst_0_16 k68 (xr0_14 k68)
              have y15_124 : rg (-2147483648) 0 (s124 0 15) := by rw [e124]; exact (show rg (-2147483648) 0 (s68 0 15) from (rg_nlt_hi (rg_full (s68 0 15)) (fun w8 => c75 (Or.inl w8)) rl_0))
              have y18_124 : rg 0 0 (s124 0 18) := by rw [e124]; exact (show rg 0 0 (s68 0 18) from (rg_eq c116 rl_0))
              exact app_i ⟨k124, (rg_w y15_124 (by decide) (by decide)), (rg_w y18_124 (by decide) (by decide))⟩
            · refine lt_pred (fun s135 e135 => ?_)
              have k135 : XOK s135 := by rw [e135]; exact xst_0_17 k68 (xr0_14 k68)
              have y15_135 : rg (-2147483648) 0 (s135 0 15) := by rw [e135]; exact (show rg (-2147483648) 0 (s68 0 15) from (rg_nlt_hi (rg_full (s68 0 15)) (fun w8 => c75 (Or.inl w8)) rl_0))
              have y18_135 : rg 1 1 (s135 0 18) := by rw [e135]; exact (show rg 1 1 (s68 0 18) from (rg_ne_lo (rg_ne_hi (xr0_18 k68) c101 (by decide +kernel)) c116 (by decide +kernel)))
              exact app_i ⟨k135, (rg_w y15_135 (by decide) (by decide)), (rg_w y18_135 (by decide) (by decide))⟩

set_option maxHeartbeats 4000000 in
theorem kp_x6_receive (σ : Sg) {ka kb : Int32} {m : Int} (hk : Kp ka kb m σ) (hm : m ≤ 1500280000) : Kp ka kb m (x6_receive σ) := by
  have hm0 : 0 ≤ m := hk.nn
  show Kp ka kb m (x6_receive σ)
  unfold x6_receive
  refine ite_pred (fun c4 => ?_) (fun c4 => ?_)
  · refine ite_pred (fun c11 => ?_) (fun c11 => ?_)
    · exact Kp.w hk (by omega)
    · refine lt_pred (fun s25 e25 => ?_)
      have q25 : Kp ka kb m s25 := by rw [e25]; exact Kp.same hk rfl rfl rfl
      refine lt_pred (fun s39 e39 => ?_)
      have q39 : Kp ka kb m s39 := by rw [e39]; exact Kp.same q25 rfl rfl rfl
      refine lt_pred (fun s49 e49 => ?_)
      have q49 : Kp ka kb m s49 := by rw [e49]; exact Kp.same q39 rfl rfl rfl
      refine lt_pred (fun s57 e57 => ?_)
      have q57 : Kp ka kb m s57 := by rw [e57]; exact Kp.same q49 rfl rfl rfl
      exact Kp.w q57 (by omega)
  · refine lt_pred (fun s68 e68 => ?_)
    have q68 : Kp ka kb m s68 := by rw [e68]; exact Kp.same hk rfl rfl rfl
    refine ite_pred (fun c75 => ?_) (fun c75 => ?_)
    · exact Kp.w q68 (by omega)
    · refine jn_pred (fun z101 => Kp ka kb m z101) (fun z101 h101 => ?_) ?_
      · exact Kp.w h101 (by omega)
      · refine ite_pred (fun c101 => ?_) (fun c101 => ?_)
        · refine lt_pred (fun s106 e106 => ?_)
          have q106 : Kp ka kb m s106 := by rw [e106]; exact Kp.same q68 rfl rfl rfl
          exact app_i (Kp.w q106 (by omega))
        · refine jn_pred (fun z116 => Kp ka kb m z116) (fun z116 h116 => ?_) ?_
          · refine lt_pred (fun s145 e145 => ?_)
            have q145 : Kp ka kb m s145 := by rw [e145]; exact Kp.same h116 rfl rfl rfl
            exact app_i (Kp.w q145 (by omega))
          · refine ite_pred (fun c116 => ?_) (fun c116 => ?_)
            · refine lt_pred (fun s124 e124 => ?_)
              have q124 : Kp ka kb m s124 := by rw [e124]; exact Kp.same q68 rfl rfl rfl
              exact app_i (Kp.w q124 (by omega))
            · refine lt_pred (fun s135 e135 => ?_)
              have q135 : Kp ka kb m s135 := by rw [e135]; exact Kp.same q68 rfl rfl rfl
              exact app_i (Kp.w q135 (by omega))

def x6_cycle (σ : Sg) : Sg :=
  lt ((
    if (σ 0 13) = 0 then
      if (σ 0 11) < 0 then
        σ
      else
        lt (sst σ 0 12 (σ 0 11)) fun s19 =>
        lt (sst s19 0 11 (-1)) fun s24 =>
        lt (sst s24 0 13 (x6_frame s24)) fun s32 =>
        s32
    else
      lt (sst σ 0 13 ((σ 0 13) - 1)) fun s45 =>
      if (s45 0 13) = 0 then
        lt ((
          if (s45 0 20) < 1000 then
            lt (sst s45 4 ((s45 0 20)).toNatClampNeg (s45 0 12)) fun s77 =>
            s77
          else
            s45) : Sg) fun z62 =>
        lt (sst z62 0 20 ((z62 0 20) + 1)) fun s85 =>
        if (s85 0 11) < 0 then
          lt (sst s85 0 32 1) fun s97 =>
          s97
        else
          s85
      else
        s45) : Sg) fun z4 =>
  lt (x6_receive z4) fun s101 =>
  s101
set_option maxHeartbeats 4000000 in
theorem ok_x6_cycle (σ : Sg) (ok : XOK σ) (hs20 : rg 0 2147483646 (σ 0 20)) : XOK (x6_cycle σ) := by
  unfold x6_cycle
  refine jn_pred (fun z4 => XOK z4) (fun z4 h4 => ?_) ?_
  · refine lt_pred (fun s101 e101 => ?_)
    have k101 : XOK s101 := by rw [e101]; exact ok_x6_receive z4 h4
    exact k101
  · refine ite_pred (fun c4 => ?_) (fun c4 => ?_)
    · refine ite_pred (fun c11 => ?_) (fun c11 => ?_)
      · exact app_i ok
      · refine lt_pred (fun s19 e19 => ?_)
        have k19 : XOK s19 := by rw [e19]; exact xst_f0_12 ok
        have y20_19 : rg 0 2147483646 (s19 0 20) := by rw [e19]; exact (show rg 0 2147483646 (σ 0 20) from hs20)
        have y13_19 : rg 0 0 (s19 0 13) := by rw [e19]; exact (show rg 0 0 (σ 0 13) from (rg_eq c4 rl_0))
        have y11_19 : rg 0 255 (s19 0 11) := by rw [e19]; exact (show rg 0 255 (σ 0 11) from (rg_nlt_lo (xr0_11 ok) c11 rl_0))
        refine lt_pred (fun s24 e24 => ?_)
        have k24 : XOK s24 := by rw [e24]; exact xst_0_11 k19 (rg_w rl_m1 (by decide) (by decide))
        have y20_24 : rg 0 2147483646 (s24 0 20) := by rw [e24]; exact (show rg 0 2147483646 (s19 0 20) from y20_19)
        have y13_24 : rg 0 0 (s24 0 13) := by rw [e24]; exact (show rg 0 0 (s19 0 13) from y13_19)
        refine lt_pred (fun s32 e32 => ?_)
        have k32 : XOK s32 := by rw [e32]; exact xst_f0_13 k24
        have y20_32 : rg 0 2147483646 (s32 0 20) := by rw [e32]; exact (show rg 0 2147483646 (s24 0 20) from y20_24)
        exact app_i k32
    · refine lt_pred (fun s45 e45 => ?_)
      have k45 : XOK s45 := by rw [e45]; exact xst_f0_13 ok
      have y20_45 : rg 0 2147483646 (s45 0 20) := by rw [e45]; exact (show rg 0 2147483646 (σ 0 20) from hs20)
      refine ite_pred (fun c52 => ?_) (fun c52 => ?_)
      · refine jn_pred (fun z62 => XOK z62 ∧ rg 0 0 (z62 0 13) ∧ rg 0 2147483646 (z62 0 20)) (fun z62 h62 => ?_) ?_
        · refine lt_pred (fun s85 e85 => ?_)
          have k85 : XOK s85 := by rw [e85]; exact xst_f0_20 h62.1
          have y13_85 : rg 0 0 (s85 0 13) := by rw [e85]; exact (show rg 0 0 (z62 0 13) from h62.2.1)
          refine ite_pred (fun c92 => ?_) (fun c92 => ?_)
          · refine lt_pred (fun s97 e97 => ?_)
            have k97 : XOK s97 := by rw [e97]; exact xst_0_32 k85 (rg_w rl_1 (by decide) (by decide))
            have y13_97 : rg 0 0 (s97 0 13) := by rw [e97]; exact (show rg 0 0 (s85 0 13) from y13_85)
            have y11_97 : rg (-1) (-1) (s97 0 11) := by rw [e97]; exact (show rg (-1) (-1) (s85 0 11) from (rg_lt_hi (xr0_11 k85) c92 rl_0))
            exact app_i k97
          · exact app_i k85
        · refine ite_pred (fun c62 => ?_) (fun c62 => ?_)
          · refine lt_pred (fun s77 e77 => ?_)
            have k77 : XOK s77 := by rw [e77]; exact xst_f4 k45
            have y20_77 : rg 0 999 (s77 0 20) := by rw [e77]; exact (show rg 0 999 (s45 0 20) from (rg_lt_hi y20_45 c62 rl_1000))
            have y13_77 : rg 0 0 (s77 0 13) := by rw [e77]; exact (show rg 0 0 (s45 0 13) from (rg_eq c52 rl_0))
            exact app_i ⟨k77, (rg_w y13_77 (by decide) (by decide)), (rg_w y20_77 (by decide) (by decide))⟩
          · exact app_i ⟨k45, (rg_w (rg_eq c52 rl_0) (by decide) (by decide)), (rg_w (rg_nlt_lo y20_45 c62 rl_1000) (by decide) (by decide))⟩
      · exact app_i k45

set_option maxHeartbeats 4000000 in
theorem hm_x6_cycle (σ : Sg) {B m : Int} (hk : HBm B m σ) (hm : m ≤ 1500270000) (hB : B ≤ 4294967290) : HBm (B + 1) m (x6_cycle σ) := by
  show HBm (B + 1) m (x6_cycle σ)
  unfold x6_cycle
  refine jn_pred (fun z => HBm (B + 1) m z) (fun z4 h4 => ?_) ?_
  · refine lt_pred (fun s101 e101 => ?_)
    rw [e101]; exact HBm.kp h4 (kp_x6_receive z4 (ka := z4 0 20) (kb := z4 0 13) ⟨rfl, rfl, h4.2⟩ (by omega))
  · refine ite_pred (fun c => ?_) (fun c => ?_)
    · refine ite_pred (fun c2 => ?_) (fun c2 => ?_)
      · exact app_i (HBm.w hk (by omega) (by omega))
      · refine lt_pred (fun s19 e19 => ?_)
        refine lt_pred (fun s24 e24 => ?_)
        refine lt_pred (fun s32 e32 => ?_)
        exact app_i (HBm.start hk c (by rw [e32, e24, e19]; rfl) (by rw [e32, e24, e19]; rfl))
    · refine lt_pred (fun s45 e45 => ?_)
      refine ite_pred (fun c2 => ?_) (fun c2 => ?_)
      · refine jn_pred (fun z => z 0 20 = σ 0 20 ∧ z 0 13 = 0 ∧ z 0 1 = σ 0 1) (fun z62 h62 => ?_) ?_
        · refine lt_pred (fun s85 e85 => ?_)
          have q : HBm (B + 1) m s85 := HBm.inc hk c hB (by rw [e85]; show z62 0 20 + 1 = _; rw [h62.1]) (by rw [e85]; exact h62.2.1) (by rw [e85]; exact h62.2.2)
          refine ite_pred (fun c3 => ?_) (fun c3 => ?_)
          · refine lt_pred (fun s97 e97 => ?_)
            exact app_i (by rw [e97]; exact HBm.same q rfl rfl rfl)
          · exact app_i q
        · refine ite_pred (fun c3 => ?_) (fun c3 => ?_)
          · refine lt_pred (fun s77 e77 => ?_)
            exact app_i ⟨by rw [e77, e45]; rfl, by rw [e77]; exact c2, by rw [e77, e45]; rfl⟩
          · exact app_i ⟨by rw [e45]; rfl, c2, by rw [e45]; rfl⟩
      · exact app_i (HBm.w (HBm.decr hk c (by rw [e45]; rfl) (by rw [e45]; rfl)) (by omega) (by omega))

def x6_add (σ : Sg) (x1 : Int32) : Int32 × Sg :=
  if (σ 0 19) = 300 then
    ((-1), σ)
  else
    lt (sst σ 6 (((((σ 0 34) + (σ 0 19))) - (((σ 0 34) + (σ 0 19))) / (300) * (300))).toNatClampNeg (x1 &&& 255)) fun s34 =>
    lt (sst s34 0 19 ((s34 0 19) + 1)) fun s42 =>
    ((s42 0 19), s42)
set_option maxHeartbeats 4000000 in
theorem ok_x6_add (σ : Sg) (x1 : Int32) (ok : XOK σ) : (Pri XOK (-1) 300) (x6_add σ x1) := by
  unfold x6_add
  refine ite_pred (fun c7 => ?_) (fun c7 => ?_)
  · exact ⟨ok, (rg_w rl_m1 (by decide) (by decide))⟩
  · refine lt_pred (fun s34 e34 => ?_)
    have k34 : XOK s34 := by rw [e34]; exact xst_6 ok (rg_and_r (rg_w (lo2 := 0) rl_255 (by decide) (Int.le_refl _)))
    have y19_34 : rg 0 299 (s34 0 19) := by rw [e34]; exact (show rg 0 299 (σ 0 19) from (rg_ne_hi (xr0_19 ok) c7 (by decide +kernel)))
    refine lt_pred (fun s42 e42 => ?_)
    have k42 : XOK s42 := by rw [e42]; exact xst_0_19 k34 (rg_w (rg_add y19_34 rl_1 (by decide) (by decide)) (by decide) (by decide))
    have y19_42 : rg 1 300 (s42 0 19) := by rw [e42]; exact (show rg 1 300 ((s34 0 19) + 1) from (rg_add y19_34 rl_1 (by decide) (by decide)))
    exact ⟨k42, (rg_w y19_42 (by decide) (by decide))⟩

set_option maxHeartbeats 4000000 in
theorem kp_x6_add (σ : Sg) (x1 : Int32) {ka kb : Int32} {m : Int} (hk : Kp ka kb m σ) (hm : m ≤ 1500290000) : Kp ka kb m (x6_add σ x1).2 := by
  have hm0 : 0 ≤ m := hk.nn
  show Kpi ka kb m (x6_add σ x1)
  unfold x6_add
  refine ite_pred (fun c7 => ?_) (fun c7 => ?_)
  · exact Kp.w hk (by omega)
  · refine lt_pred (fun s34 e34 => ?_)
    have q34 : Kp ka kb m s34 := by rw [e34]; exact Kp.same hk rfl rfl rfl
    refine lt_pred (fun s42 e42 => ?_)
    have q42 : Kp ka kb m s42 := by rw [e42]; exact Kp.same q34 rfl rfl rfl
    exact Kp.w q42 (by omega)

def x6_clear (σ : Sg) : Sg :=
  lt (sst σ 0 11 (-1)) fun s2 =>
  lt (sst s2 0 13 0) fun s7 =>
  lt (sst s7 0 15 0) fun s12 =>
  lt (sst s12 0 18 0) fun s17 =>
  lt (sst s17 0 31 0) fun s22 =>
  lt (sst s22 0 32 0) fun s27 =>
  lt (sst s27 0 33 0) fun s32 =>
  s32
set_option maxHeartbeats 4000000 in
theorem ok_x6_clear (σ : Sg) (ok : XOK σ) : XOK (x6_clear σ) := by
  unfold x6_clear
  refine lt_pred (fun s2 e2 => ?_)
  have k2 : XOK s2 := by rw [e2]; exact xst_0_11 ok (rg_w rl_m1 (by decide) (by decide))
  refine lt_pred (fun s7 e7 => ?_)
  have k7 : XOK s7 := by rw [e7]; exact xst_f0_13 k2
  refine lt_pred (fun s12 e12 => ?_)
  have k12 : XOK s12 := by rw [e12]; exact xst_f0_15 k7
  refine lt_pred (fun s17 e17 => ?_)
  have k17 : XOK s17 := by rw [e17]; exact xst_0_18 k12 (rg_w rl_0 (by decide) (by decide))
  refine lt_pred (fun s22 e22 => ?_)
  have k22 : XOK s22 := by rw [e22]; exact xst_0_31 k17 (rg_w rl_0 (by decide) (by decide))
  refine lt_pred (fun s27 e27 => ?_)
  have k27 : XOK s27 := by rw [e27]; exact xst_0_32 k22 (rg_w rl_0 (by decide) (by decide))
  refine lt_pred (fun s32 e32 => ?_)
  have k32 : XOK s32 := by rw [e32]; exact xst_0_33 k27 (rg_w rl_0 (by decide) (by decide))
  exact k32

set_option maxHeartbeats 4000000 in
theorem hm_x6_clear (σ : Sg) {B m : Int} (hk : HBm B m σ) (hm : m ≤ 1500290000) : HBm B m (x6_clear σ) := by
  have hm0 : 0 ≤ m := hk.nn
  show HBm B m (x6_clear σ)
  unfold x6_clear
  refine lt_pred (fun s2 e2 => ?_)
  have q2 : HBm B m s2 := by rw [e2]; exact HBm.same hk rfl rfl rfl
  refine lt_pred (fun s7 e7 => ?_)
  have q7 : HBm B m s7 := by rw [e7]; exact HBm.z13 q2
  refine lt_pred (fun s12 e12 => ?_)
  have q12 : HBm B m s12 := by rw [e12]; exact HBm.same q7 rfl rfl rfl
  refine lt_pred (fun s17 e17 => ?_)
  have q17 : HBm B m s17 := by rw [e17]; exact HBm.same q12 rfl rfl rfl
  refine lt_pred (fun s22 e22 => ?_)
  have q22 : HBm B m s22 := by rw [e22]; exact HBm.same q17 rfl rfl rfl
  refine lt_pred (fun s27 e27 => ?_)
  have q27 : HBm B m s27 := by rw [e27]; exact HBm.same q22 rfl rfl rfl
  refine lt_pred (fun s32 e32 => ?_)
  have q32 : HBm B m s32 := by rw [e32]; exact HBm.same q27 rfl rfl rfl
  exact HBm.w q32 (by omega) (by omega)

def x7_load (σ : Sg) (x1 : Int32) : Int32 :=
  lt ((
    if x1 = 63 then
      lt ((
        if 0 < (σ 0 21) then
          4
        else
          0) : Int32) fun z23 =>
      lt ((
        if 0 < (σ 0 22) then
          2
        else
          0) : Int32) fun z36 =>
      ((((σ 1 63) &&& 8) ||| z23) ||| z36)
    else
      (σ 1 (x1).toNatClampNeg)) : Int32) fun z3 =>
  z3
set_option maxHeartbeats 4000000 in
theorem ok_x7_load (σ : Sg) (x1 : Int32) (ok : XOK σ) (hx1 : rg 0 1279 x1) : rg 0 255 (x7_load σ x1) := by
  unfold x7_load
  refine jn_pred (fun z3 => rg 0 255 z3) (fun z3 h3 => ?_) ?_
  · exact h3
  · refine ite_pred (fun c3 => ?_) (fun c3 => ?_)
    · refine jn_pred (fun z23 => rg 0 4 z23) (fun z23 h23 => ?_) ?_
      · refine jn_pred (fun z36 => rg 0 2 z36) (fun z36 h36 => ?_) ?_
        · exact app_i (rg_w (rg_or 4 (rg_or 4 (rg_and_r (rg_w (lo2 := 0) rl_8 (by decide) (Int.le_refl _))) h23 (by decide) (by decide) (by decide)) h36 (by decide) (by decide) (by decide)) (by decide) (by decide))
        · refine ite_pred (fun c36 => ?_) (fun c36 => ?_)
          · exact app_i (rg_w rl_2 (by decide) (by decide))
          · exact app_i (rg_w rl_0 (by decide) (by decide))
      · refine ite_pred (fun c23 => ?_) (fun c23 => ?_)
        · exact app_i (rg_w rl_4 (by decide) (by decide))
        · exact app_i (rg_w rl_0 (by decide) (by decide))
    · exact app_i (xr_1 ok _)

def x7_store (σ : Sg) (x1 : Int32) (x2 : Int32) : Sg :=
  if x1 = 63 then
    lt ((
      if 0 < (σ 0 21) then
        1
      else
        0) : Int32) fun z28 =>
    lt (sst σ 1 63 (x2 &&& 8)) fun s50 =>
    lt ((
      if (x2 &&& 4) = 0 then
        s50
      else
        lt (sst s50 0 21 4) fun s59 =>
        s59) : Sg) fun z54 =>
    lt ((
      if ((x2 &&& 2) = 0) ∨ ((z28 = 0) ∨ (¬ ((z54 0 22) = 0))) then
        z54
      else
        lt (sst z54 3 ((z54 1 65)).toNatClampNeg (z54 1 64)) fun s103 =>
        lt (sst s103 0 22 3400) fun s108 =>
        lt (sst s108 0 21 0) fun s113 =>
        s113) : Sg) fun z65 =>
    lt ((
      if (¬ ((x2 &&& 1) = 0)) ∧ ((z65 0 22) = 0) then
        lt (sst z65 1 64 (z65 3 ((z65 1 65)).toNatClampNeg)) fun s153 =>
        lt (sst s153 0 1 ((s153 0 1) + 4)) fun s164 =>
        s164
      else
        z65) : Sg) fun z119 =>
    z119
  else
    lt ((
      if (σ 0 22) = 0 then
        lt (sst σ 1 (x1).toNatClampNeg x2) fun s22 =>
        s22
      else
        σ) : Sg) fun z10 =>
    z10
set_option maxHeartbeats 4000000 in
theorem ok_x7_store (σ : Sg) (x1 : Int32) (x2 : Int32) (ok : XOK σ) (hx1 : rg 0 1279 x1) (hx2 : rg 0 255 x2) : XOK (x7_store σ x1 x2) := by
  unfold x7_store
  refine ite_pred (fun c3 => ?_) (fun c3 => ?_)
  · refine jn_pred (fun z28 => rg 0 1 z28) (fun z28 h28 => ?_) ?_
    · refine lt_pred (fun s50 e50 => ?_)
      have k50 : XOK s50 := by rw [e50]; exact xst_1 ok (rg_w (rg_and_r (rg_w (lo2 := 0) rl_8 (by decide) (Int.le_refl _))) (by decide) (by decide))
      refine jn_pred (fun z54 => XOK z54) (fun z54 h54 => ?_) ?_
      · refine jn_pred (fun z65 => XOK z65) (fun z65 h65 => ?_) ?_
        · refine jn_pred (fun z119 => XOK z119) (fun z119 h119 => ?_) ?_
          · exact h119
          · refine ite_pred (fun c119 => ?_) (fun c119 => ?_)
            · refine lt_pred (fun s153 e153 => ?_)
              have k153 : XOK s153 := by rw [e153]; exact xst_1 h65 (xr_3 h65 _)
              have y22_153 : rg 0 0 (s153 0 22) := by rw [e153]; exact (show rg 0 0 (z65 0 22) from (rg_eq (c119).2 rl_0))
              refine lt_pred (fun s164 e164 => ?_)
              have k164 : XOK s164 := by rw [e164]; exact xst_f0_1 k153
              have y22_164 : rg 0 0 (s164 0 22) := by rw [e164]; exact (show rg 0 0 (s153 0 22) from y22_153)
              exact app_i k164
            · exact app_i h65
        · refine ite_pred (fun c65 => ?_) (fun c65 => ?_)
          · exact app_i h54
          · refine lt_pred (fun s103 e103 => ?_)
            have k103 : XOK s103 := by rw [e103]; exact xst_3 h54 (xr_1 h54 _)
            have y22_103 : rg 0 0 (s103 0 22) := by rw [e103]; exact (show rg 0 0 (z54 0 22) from (rg_eq (Decidable.of_not_not (fun w46 => (fun w44 => c65 (Or.inr w44)) (Or.inr w46))) rl_0))
            refine lt_pred (fun s108 e108 => ?_)
            have k108 : XOK s108 := by rw [e108]; exact xst_f0_22 k103
            refine lt_pred (fun s113 e113 => ?_)
            have k113 : XOK s113 := by rw [e113]; exact xst_f0_21 k108
            exact app_i k113
      · refine ite_pred (fun c54 => ?_) (fun c54 => ?_)
        · exact app_i k50
        · refine lt_pred (fun s59 e59 => ?_)
          have k59 : XOK s59 := by rw [e59]; exact xst_f0_21 k50
          exact app_i k59
    · refine ite_pred (fun c28 => ?_) (fun c28 => ?_)
      · exact app_i (rg_w rl_1 (by decide) (by decide))
      · exact app_i (rg_w rl_0 (by decide) (by decide))
  · refine jn_pred (fun z10 => XOK z10) (fun z10 h10 => ?_) ?_
    · exact h10
    · refine ite_pred (fun c10 => ?_) (fun c10 => ?_)
      · refine lt_pred (fun s22 e22 => ?_)
        have k22 : XOK s22 := by rw [e22]; exact xst_1 ok hx2
        have y22_22 : rg 0 0 (s22 0 22) := by rw [e22]; exact (show rg 0 0 (σ 0 22) from (rg_eq c10 rl_0))
        exact app_i k22
      · exact app_i ok

set_option maxHeartbeats 4000000 in
theorem kp_x7_store (σ : Sg) (x1 : Int32) (x2 : Int32) {ka kb : Int32} {m : Int} (hk : Kp ka kb m σ) (hm : m ≤ 1500290000) : Kp ka kb (m + 4) (x7_store σ x1 x2) := by
  have hm0 : 0 ≤ m := hk.nn
  show Kp ka kb (m + 4) (x7_store σ x1 x2)
  unfold x7_store
  refine ite_pred (fun c3 => ?_) (fun c3 => ?_)
  · refine jn_pred (fun z28 => True) (fun z28 h28 => ?_) ?_
    · refine lt_pred (fun s50 e50 => ?_)
      have q50 : Kp ka kb m s50 := by rw [e50]; exact Kp.same hk rfl rfl rfl
      refine jn_pred (fun z54 => Kp ka kb m z54) (fun z54 h54 => ?_) ?_
      · refine jn_pred (fun z65 => Kp ka kb m z65) (fun z65 h65 => ?_) ?_
        · refine jn_pred (fun z119 => Kp ka kb (m + 4) z119) (fun z119 h119 => ?_) ?_
          · exact Kp.w h119 (by omega)
          · refine ite_pred (fun c119 => ?_) (fun c119 => ?_)
            · refine lt_pred (fun s153 e153 => ?_)
              have q153 : Kp ka kb m s153 := by rw [e153]; exact Kp.same h65 rfl rfl rfl
              refine lt_pred (fun s164 e164 => ?_)
              have q164 : Kp ka kb (m + 4) s164 := by rw [e164]; exact Kp.add q153 rl_4 (by omega) (by omega)
              exact app_i (Kp.w q164 (by omega))
            · exact app_i (Kp.w h65 (by omega))
        · refine ite_pred (fun c65 => ?_) (fun c65 => ?_)
          · exact app_i (Kp.w h54 (by omega))
          · refine lt_pred (fun s103 e103 => ?_)
            have q103 : Kp ka kb m s103 := by rw [e103]; exact Kp.same h54 rfl rfl rfl
            refine lt_pred (fun s108 e108 => ?_)
            have q108 : Kp ka kb m s108 := by rw [e108]; exact Kp.same q103 rfl rfl rfl
            refine lt_pred (fun s113 e113 => ?_)
            have q113 : Kp ka kb m s113 := by rw [e113]; exact Kp.same q108 rfl rfl rfl
            exact app_i (Kp.w q113 (by omega))
      · refine ite_pred (fun c54 => ?_) (fun c54 => ?_)
        · exact app_i (Kp.w q50 (by omega))
        · refine lt_pred (fun s59 e59 => ?_)
          have q59 : Kp ka kb m s59 := by rw [e59]; exact Kp.same q50 rfl rfl rfl
          exact app_i (Kp.w q59 (by omega))
    · refine ite_pred (fun c28 => ?_) (fun c28 => ?_)
      · exact app_i trivial
      · exact app_i trivial
  · refine jn_pred (fun z10 => Kp ka kb m z10) (fun z10 h10 => ?_) ?_
    · exact Kp.w h10 (by omega)
    · refine ite_pred (fun c10 => ?_) (fun c10 => ?_)
      · refine lt_pred (fun s22 e22 => ?_)
        have q22 : Kp ka kb m s22 := by rw [e22]; exact Kp.same hk rfl rfl rfl
        exact app_i (Kp.w q22 (by omega))
      · exact app_i (Kp.w hk (by omega))

def x7_cycle (σ : Sg) : Sg :=
  lt ((
    if 0 < (σ 0 21) then
      lt (sst σ 0 21 ((σ 0 21) - 1)) fun s14 =>
      s14
    else
      σ) : Sg) fun z4 =>
  lt ((
    if 0 < (z4 0 22) then
      lt (sst z4 0 22 ((z4 0 22) - 1)) fun s31 =>
      s31
    else
      z4) : Sg) fun z21 =>
  z21
set_option maxHeartbeats 4000000 in
theorem ok_x7_cycle (σ : Sg) (ok : XOK σ) : XOK (x7_cycle σ) := by
  unfold x7_cycle
  refine jn_pred (fun z4 => XOK z4) (fun z4 h4 => ?_) ?_
  · refine jn_pred (fun z21 => XOK z21) (fun z21 h21 => ?_) ?_
    · exact h21
    · refine ite_pred (fun c21 => ?_) (fun c21 => ?_)
      · refine lt_pred (fun s31 e31 => ?_)
        have k31 : XOK s31 := by rw [e31]; exact xst_f0_22 h4
        exact app_i k31
      · exact app_i h4
  · refine ite_pred (fun c4 => ?_) (fun c4 => ?_)
    · refine lt_pred (fun s14 e14 => ?_)
      have k14 : XOK s14 := by rw [e14]; exact xst_f0_21 ok
      exact app_i k14
    · exact app_i ok

set_option maxHeartbeats 4000000 in
theorem kp_x7_cycle (σ : Sg) {ka kb : Int32} {m : Int} (hk : Kp ka kb m σ) (hm : m ≤ 1500290000) : Kp ka kb m (x7_cycle σ) := by
  have hm0 : 0 ≤ m := hk.nn
  show Kp ka kb m (x7_cycle σ)
  unfold x7_cycle
  refine jn_pred (fun z4 => Kp ka kb m z4) (fun z4 h4 => ?_) ?_
  · refine jn_pred (fun z21 => Kp ka kb m z21) (fun z21 h21 => ?_) ?_
    · exact Kp.w h21 (by omega)
    · refine ite_pred (fun c21 => ?_) (fun c21 => ?_)
      · refine lt_pred (fun s31 e31 => ?_)
        have q31 : Kp ka kb m s31 := by rw [e31]; exact Kp.same h4 rfl rfl rfl
        exact app_i (Kp.w q31 (by omega))
      · exact app_i (Kp.w h4 (by omega))
  · refine ite_pred (fun c4 => ?_) (fun c4 => ?_)
    · refine lt_pred (fun s14 e14 => ?_)
      have q14 : Kp ka kb m s14 := by rw [e14]; exact Kp.same hk rfl rfl rfl
      exact app_i (Kp.w q14 (by omega))
    · exact app_i (Kp.w hk (by omega))

def x7_clear (σ : Sg) : Sg :=
  lt (sst σ 0 21 0) fun s2 =>
  lt (sst s2 0 22 0) fun s7 =>
  s7
set_option maxHeartbeats 4000000 in
theorem ok_x7_clear (σ : Sg) (ok : XOK σ) : XOK (x7_clear σ) := by
  unfold x7_clear
  refine lt_pred (fun s2 e2 => ?_)
  have k2 : XOK s2 := by rw [e2]; exact xst_f0_21 ok
  refine lt_pred (fun s7 e7 => ?_)
  have k7 : XOK s7 := by rw [e7]; exact xst_f0_22 k2
  exact k7

set_option maxHeartbeats 4000000 in
theorem kp_x7_clear (σ : Sg) {ka kb : Int32} {m : Int} (hk : Kp ka kb m σ) (hm : m ≤ 1500290000) : Kp ka kb m (x7_clear σ) := by
  have hm0 : 0 ≤ m := hk.nn
  show Kp ka kb m (x7_clear σ)
  unfold x7_clear
  refine lt_pred (fun s2 e2 => ?_)
  have q2 : Kp ka kb m s2 := by rw [e2]; exact Kp.same hk rfl rfl rfl
  refine lt_pred (fun s7 e7 => ?_)
  have q7 : Kp ka kb m s7 := by rw [e7]; exact Kp.same q2 rfl rfl rfl
  exact Kp.w q7 (by omega)

def x8_store (σ : Sg) (x1 : Int32) (x2 : Int32) : Sg :=
  lt ((σ 1 96) : Int32) fun v10 =>
  lt ((
    if (x2 &&& 128) = 0 then
      v10
    else
      lt ((v10 &&& 127) : Int32) fun v23 =>
      v23) : Int32) fun z16 =>
  lt (((z16 &&& (-65)) ||| (x2 &&& 64)) : Int32) fun v33 =>
  lt ((
    if (¬ ((v33 &&& 16) = 0)) ∧ ((x2 &&& 16) = 0) then
      lt ((((v33 &&& 192) ||| (x2 &&& 47)) ||| ((σ 1 84) &&& 8)) : Int32) fun v72 =>
      lt (sst σ 0 23 0) fun s75 =>
      (v72, s75)
    else
      if (x2 &&& 24) = 24 then
        lt ((v33 ||| 16) : Int32) fun v94 =>
        lt (sst σ 0 23 4) fun s97 =>
        (v94, s97)
      else
        (v33, σ)) : Int32 × Sg) fun z38 =>
  lt (sst z38.2 1 96 z38.1) fun s110 =>
  s110
set_option maxHeartbeats 4000000 in
theorem ok_x8_store (σ : Sg) (x1 : Int32) (x2 : Int32) (ok : XOK σ) (hx2 : rg 0 255 x2) : XOK (x8_store σ x1 x2) := by
  unfold x8_store
  refine lt_pred (fun v10 e10 => ?_)
  have f10 : rg 0 255 v10 := by rw [e10]; exact (xr_1 ok _)
  refine jn_pred (fun z16 => rg 0 255 z16) (fun z16 h16 => ?_) ?_
  · refine lt_pred (fun v33 e33 => ?_)
    have f33 : rg 0 255 v33 := by rw [e33]; exact (rg_or 8 (rg_and_l h16) (rg_and_r (rg_w (lo2 := 0) rl_64 (by decide) (Int.le_refl _))) (by decide) (by decide) (by decide))
    refine jn_pred (fun z38 => rg 0 255 z38.1 ∧ XOK z38.2) (fun z38 h38 => ?_) ?_
    · refine lt_pred (fun s110 e110 => ?_)
      have k110 : XOK s110 := by rw [e110]; exact xst_1 h38.2 h38.1
      exact k110
    · refine ite_pred (fun c38 => ?_) (fun c38 => ?_)
      · refine lt_pred (fun v72 e72 => ?_)
        have f72 : rg 0 255 v72 := by rw [e72]; exact (rg_or 8 (rg_or 8 (rg_and_r (rg_w (lo2 := 0) rl_192 (by decide) (Int.le_refl _))) (rg_and_r (rg_w (lo2 := 0) rl_47 (by decide) (Int.le_refl _))) (by decide) (by decide) (by decide)) (rg_and_r (rg_w (lo2 := 0) rl_8 (by decide) (Int.le_refl _))) (by decide) (by decide) (by decide))
        refine lt_pred (fun s75 e75 => ?_)
        have k75 : XOK s75 := by rw [e75]; exact xst_f0_23 ok
        exact app_i ⟨f72, k75⟩
      · refine ite_pred (fun c87 => ?_) (fun c87 => ?_)
        · refine lt_pred (fun v94 e94 => ?_)
          have f94 : rg 0 255 v94 := by rw [e94]; exact (rg_or 8 f33 (rg_w (lo2 := 0) rl_16 (by decide) (Int.le_refl _)) (by decide) (by decide) (by decide))
          refine lt_pred (fun s97 e97 => ?_)
          have k97 : XOK s97 := by rw [e97]; exact xst_f0_23 ok
          exact app_i ⟨f94, k97⟩
        · exact app_i ⟨f33, ok⟩
  · refine ite_pred (fun c16 => ?_) (fun c16 => ?_)
    · exact app_i f10
    · refine lt_pred (fun v23 e23 => ?_)
      have f23 : rg 0 127 v23 := by rw [e23]; exact (rg_and_r (rg_w (lo2 := 0) rl_127 (by decide) (Int.le_refl _)))
      exact app_i (rg_w f23 (by decide) (by decide))

set_option maxHeartbeats 4000000 in
theorem kp_x8_store (σ : Sg) (x1 : Int32) (x2 : Int32) {ka kb : Int32} {m : Int} (hk : Kp ka kb m σ) (hm : m ≤ 1500290000) : Kp ka kb m (x8_store σ x1 x2) := by
  have hm0 : 0 ≤ m := hk.nn
  show Kp ka kb m (x8_store σ x1 x2)
  unfold x8_store
  refine lt_pred (fun v10 e10 => ?_)
  refine jn_pred (fun z16 => True) (fun z16 h16 => ?_) ?_
  · refine lt_pred (fun v33 e33 => ?_)
    refine jn_pred (fun z38 => Kp ka kb m z38.2) (fun z38 h38 => ?_) ?_
    · refine lt_pred (fun s110 e110 => ?_)
      have q110 : Kp ka kb m s110 := by rw [e110]; exact Kp.same h38 rfl rfl rfl
      exact Kp.w q110 (by omega)
    · refine ite_pred (fun c38 => ?_) (fun c38 => ?_)
      · refine lt_pred (fun v72 e72 => ?_)
        refine lt_pred (fun s75 e75 => ?_)
        have q75 : Kp ka kb m s75 := by rw [e75]; exact Kp.same hk rfl rfl rfl
        exact app_i (Kp.w q75 (by omega))
      · refine ite_pred (fun c87 => ?_) (fun c87 => ?_)
        · refine lt_pred (fun v94 e94 => ?_)
          refine lt_pred (fun s97 e97 => ?_)
          have q97 : Kp ka kb m s97 := by rw [e97]; exact Kp.same hk rfl rfl rfl
          exact app_i (Kp.w q97 (by omega))
        · exact app_i (Kp.w hk (by omega))
  · refine ite_pred (fun c16 => ?_) (fun c16 => ?_)
    · exact app_i trivial
    · refine lt_pred (fun v23 e23 => ?_)
      exact app_i trivial

def x8_shorter (σ : Sg) : Sg :=
  if (σ 0 23) = 0 then
    σ
  else
    lt (sst σ 0 23 ((σ 0 23) - 1)) fun s15 =>
    lt ((
      if (s15 0 23) = 0 then
        lt (sst s15 1 96 ((s15 1 96) &&& (-17))) fun s39 =>
        s39
      else
        s15) : Sg) fun z22 =>
    z22
set_option maxHeartbeats 4000000 in
theorem ok_x8_shorter (σ : Sg) (ok : XOK σ) : XOK (x8_shorter σ) := by
  unfold x8_shorter
  refine ite_pred (fun c4 => ?_) (fun c4 => ?_)
  · exact ok
  · refine lt_pred (fun s15 e15 => ?_)
    have k15 : XOK s15 := by rw [e15]; exact xst_f0_23 ok
    refine jn_pred (fun z22 => XOK z22) (fun z22 h22 => ?_) ?_
    · exact h22
    · refine ite_pred (fun c22 => ?_) (fun c22 => ?_)
      · refine lt_pred (fun s39 e39 => ?_)
        have k39 : XOK s39 := by rw [e39]; exact xst_1 k15 (rg_and_l (xr_1 k15 _))
        have y23_39 : rg 0 0 (s39 0 23) := by rw [e39]; exact (show rg 0 0 (s15 0 23) from (rg_eq c22 rl_0))
        exact app_i k39
      · exact app_i k15

set_option maxHeartbeats 4000000 in
theorem kp_x8_shorter (σ : Sg) {ka kb : Int32} {m : Int} (hk : Kp ka kb m σ) (hm : m ≤ 1500290000) : Kp ka kb m (x8_shorter σ) := by
  have hm0 : 0 ≤ m := hk.nn
  show Kp ka kb m (x8_shorter σ)
  unfold x8_shorter
  refine ite_pred (fun c4 => ?_) (fun c4 => ?_)
  · exact Kp.w hk (by omega)
  · refine lt_pred (fun s15 e15 => ?_)
    have q15 : Kp ka kb m s15 := by rw [e15]; exact Kp.same hk rfl rfl rfl
    refine jn_pred (fun z22 => Kp ka kb m z22) (fun z22 h22 => ?_) ?_
    · exact Kp.w h22 (by omega)
    · refine ite_pred (fun c22 => ?_) (fun c22 => ?_)
      · refine lt_pred (fun s39 e39 => ?_)
        have q39 : Kp ka kb m s39 := by rw [e39]; exact Kp.same q15 rfl rfl rfl
        exact app_i (Kp.w q39 (by omega))
      · exact app_i (Kp.w q15 (by omega))

def x8_cycle (σ : Sg) : Sg :=
  lt ((σ 1 96) : Int32) fun v10 =>
  if (v10 &&& 72) = 0 then
    lt (sst σ 0 24 0) fun s20 =>
    s20
  else
    lt (sst σ 0 24 ((σ 0 24) + 1)) fun s31 =>
    lt ((if (((v10 &&& 32) >>> (2 : Int32)) ||| (v10 &&& 7)) < 11 then (((v10 &&& 32) >>> (2 : Int32)) ||| (v10 &&& 7)) else 11) : Int32) fun v50 =>
    if (s31 0 24) < ((4096 : Int32) <<< (v50 &&& 31)) then
      s31
    else
      lt (sst s31 0 24 0) fun s66 =>
      lt ((
        if (v10 &&& 64) = 0 then
          lt (sst s66 0 30 1) fun s100 =>
          s100
        else
          lt (sst s66 1 96 ((s66 1 96) ||| 128)) fun s91 =>
          s91) : Sg) fun z73 =>
      z73
set_option maxHeartbeats 4000000 in
theorem ok_x8_cycle (σ : Sg) (ok : XOK σ) : XOK (x8_cycle σ) := by
  unfold x8_cycle
  refine lt_pred (fun v10 e10 => ?_)
  have f10 : rg 0 255 v10 := by rw [e10]; exact (xr_1 ok _)
  refine ite_pred (fun c15 => ?_) (fun c15 => ?_)
  · refine lt_pred (fun s20 e20 => ?_)
    have k20 : XOK s20 := by rw [e20]; exact xst_f0_24 ok
    exact k20
  · refine lt_pred (fun s31 e31 => ?_)
    have k31 : XOK s31 := by rw [e31]; exact xst_f0_24 ok
    refine lt_pred (fun v50 e50 => ?_)
    have f50 : rg 0 15 v50 := by rw [e50]; exact (rg_ite (rg_w (rg_or 4 (rg_shr 2 (by decide +kernel) (rg_and_r (rg_w (lo2 := 0) rl_32 (by decide) (Int.le_refl _)))) (rg_and_r (rg_w (lo2 := 0) rl_7 (by decide) (Int.le_refl _))) (by decide) (by decide) (by decide)) (by decide) (by decide)) (rg_w rl_11 (by decide) (by decide)))
    refine ite_pred (fun c60 => ?_) (fun c60 => ?_)
    · exact k31
    · refine lt_pred (fun s66 e66 => ?_)
      have k66 : XOK s66 := by rw [e66]; exact xst_f0_24 k31
      refine jn_pred (fun z73 => XOK z73) (fun z73 h73 => ?_) ?_
      · exact h73
      · refine ite_pred (fun c73 => ?_) (fun c73 => ?_)
        · refine lt_pred (fun s100 e100 => ?_)
          have k100 : XOK s100 := by rw [e100]; exact xst_0_30 k66 (rg_w rl_1 (by decide) (by decide))
          exact app_i k100
        · refine lt_pred (fun s91 e91 => ?_)
          have k91 : XOK s91 := by rw [e91]; exact xst_1 k66 (rg_or 8 (xr_1 k66 _) (rg_w (lo2 := 0) rl_128 (by decide) (Int.le_refl _)) (by decide) (by decide) (by decide))
          exact app_i k91

set_option maxHeartbeats 4000000 in
theorem kp_x8_cycle (σ : Sg) {ka kb : Int32} {m : Int} (hk : Kp ka kb m σ) (hm : m ≤ 1500290000) : Kp ka kb m (x8_cycle σ) := by
  have hm0 : 0 ≤ m := hk.nn
  show Kp ka kb m (x8_cycle σ)
  unfold x8_cycle
  refine lt_pred (fun v10 e10 => ?_)
  refine ite_pred (fun c15 => ?_) (fun c15 => ?_)
  · refine lt_pred (fun s20 e20 => ?_)
    have q20 : Kp ka kb m s20 := by rw [e20]; exact Kp.same hk rfl rfl rfl
    exact Kp.w q20 (by omega)
  · refine lt_pred (fun s31 e31 => ?_)
    have q31 : Kp ka kb m s31 := by rw [e31]; exact Kp.same hk rfl rfl rfl
    refine lt_pred (fun v50 e50 => ?_)
    refine ite_pred (fun c60 => ?_) (fun c60 => ?_)
    · exact Kp.w q31 (by omega)
    · refine lt_pred (fun s66 e66 => ?_)
      have q66 : Kp ka kb m s66 := by rw [e66]; exact Kp.same q31 rfl rfl rfl
      refine jn_pred (fun z73 => Kp ka kb m z73) (fun z73 h73 => ?_) ?_
      · exact Kp.w h73 (by omega)
      · refine ite_pred (fun c73 => ?_) (fun c73 => ?_)
        · refine lt_pred (fun s100 e100 => ?_)
          have q100 : Kp ka kb m s100 := by rw [e100]; exact Kp.same q66 rfl rfl rfl
          exact app_i (Kp.w q100 (by omega))
        · refine lt_pred (fun s91 e91 => ?_)
          have q91 : Kp ka kb m s91 := by rw [e91]; exact Kp.same q66 rfl rfl rfl
          exact app_i (Kp.w q91 (by omega))

def x8_clear (σ : Sg) : Sg :=
  lt (sst σ 0 23 0) fun s2 =>
  lt (sst s2 0 24 0) fun s7 =>
  s7
set_option maxHeartbeats 4000000 in
theorem ok_x8_clear (σ : Sg) (ok : XOK σ) : XOK (x8_clear σ) := by
  unfold x8_clear
  refine lt_pred (fun s2 e2 => ?_)
  have k2 : XOK s2 := by rw [e2]; exact xst_f0_23 ok
  refine lt_pred (fun s7 e7 => ?_)
  have k7 : XOK s7 := by rw [e7]; exact xst_f0_24 k2
  exact k7

set_option maxHeartbeats 4000000 in
theorem kp_x8_clear (σ : Sg) {ka kb : Int32} {m : Int} (hk : Kp ka kb m σ) (hm : m ≤ 1500290000) : Kp ka kb m (x8_clear σ) := by
  have hm0 : 0 ≤ m := hk.nn
  show Kp ka kb m (x8_clear σ)
  unfold x8_clear
  refine lt_pred (fun s2 e2 => ?_)
  have q2 : Kp ka kb m s2 := by rw [e2]; exact Kp.same hk rfl rfl rfl
  refine lt_pred (fun s7 e7 => ?_)
  have q7 : Kp ka kb m s7 := by rw [e7]; exact Kp.same q2 rfl rfl rfl
  exact Kp.w q7 (by omega)

def x9_store (σ : Sg) (x1 : Int32) (x2 : Int32) : Sg :=
  lt ((σ 1 (x1).toNatClampNeg) : Int32) fun v9 =>
  lt ((
    if x1 = 84 then
      lt (sst σ 1 (x1).toNatClampNeg (v9 &&& (x2 ||| (-12)))) fun s30 =>
      s30
    else
      if (x2 &&& 1) = 0 then
        if (v9 &&& 1) = 0 then
          σ
        else
          lt (sst σ 1 (x1).toNatClampNeg (x2 &&& 2)) fun s77 =>
          lt (sst s77 0 25 0) fun s80 =>
          s80
      else
        lt (sst σ 1 (x1).toNatClampNeg (v9 ||| 1)) fun s51 =>
        lt (sst s51 0 25 4) fun s54 =>
        s54) : Sg) fun z13 =>
  z13
set_option maxHeartbeats 4000000 in
theorem ok_x9_store (σ : Sg) (x1 : Int32) (x2 : Int32) (ok : XOK σ) (hx1 : rg 0 1279 x1) (hx2 : rg 0 255 x2) : XOK (x9_store σ x1 x2) := by
  unfold x9_store
  refine lt_pred (fun v9 e9 => ?_)
  have f9 : rg 0 255 v9 := by rw [e9]; exact (xr_1 ok _)
  refine jn_pred (fun z13 => XOK z13) (fun z13 h13 => ?_) ?_
  · exact h13
  · refine ite_pred (fun c13 => ?_) (fun c13 => ?_)
    · refine lt_pred (fun s30 e30 => ?_)
      have k30 : XOK s30 := by rw [e30]; exact xst_1 ok (rg_and_l f9)
      exact app_i k30
    · refine ite_pred (fun c37 => ?_) (fun c37 => ?_)
      · refine ite_pred (fun c63 => ?_) (fun c63 => ?_)
        · exact app_i ok
        · refine lt_pred (fun s77 e77 => ?_)
          have k77 : XOK s77 := by rw [e77]; exact xst_1 ok (rg_w (rg_and_r (rg_w (lo2 := 0) rl_2 (by decide) (Int.le_refl _))) (by decide) (by decide))
          refine lt_pred (fun s80 e80 => ?_)
          have k80 : XOK s80 := by rw [e80]; exact xst_f0_25 k77
          exact app_i k80
      · refine lt_pred (fun s51 e51 => ?_)
        have k51 : XOK s51 := by rw [e51]; exact xst_1 ok (rg_or 8 f9 (rg_w (lo2 := 0) rl_1 (by decide) (Int.le_refl _)) (by decide) (by decide) (by decide))
        refine lt_pred (fun s54 e54 => ?_)
        have k54 : XOK s54 := by rw [e54]; exact xst_f0_25 k51
        exact app_i k54

set_option maxHeartbeats 4000000 in
theorem kp_x9_store (σ : Sg) (x1 : Int32) (x2 : Int32) {ka kb : Int32} {m : Int} (hk : Kp ka kb m σ) (hm : m ≤ 1500290000) : Kp ka kb m (x9_store σ x1 x2) := by
  have hm0 : 0 ≤ m := hk.nn
  show Kp ka kb m (x9_store σ x1 x2)
  unfold x9_store
  refine lt_pred (fun v9 e9 => ?_)
  refine jn_pred (fun z13 => Kp ka kb m z13) (fun z13 h13 => ?_) ?_
  · exact Kp.w h13 (by omega)
  · refine ite_pred (fun c13 => ?_) (fun c13 => ?_)
    · refine lt_pred (fun s30 e30 => ?_)
      have q30 : Kp ka kb m s30 := by rw [e30]; exact Kp.same hk rfl rfl rfl
      exact app_i (Kp.w q30 (by omega))
    · refine ite_pred (fun c37 => ?_) (fun c37 => ?_)
      · refine ite_pred (fun c63 => ?_) (fun c63 => ?_)
        · exact app_i (Kp.w hk (by omega))
        · refine lt_pred (fun s77 e77 => ?_)
          have q77 : Kp ka kb m s77 := by rw [e77]; exact Kp.same hk rfl rfl rfl
          refine lt_pred (fun s80 e80 => ?_)
          have q80 : Kp ka kb m s80 := by rw [e80]; exact Kp.same q77 rfl rfl rfl
          exact app_i (Kp.w q80 (by omega))
      · refine lt_pred (fun s51 e51 => ?_)
        have q51 : Kp ka kb m s51 := by rw [e51]; exact Kp.same hk rfl rfl rfl
        refine lt_pred (fun s54 e54 => ?_)
        have q54 : Kp ka kb m s54 := by rw [e54]; exact Kp.same q51 rfl rfl rfl
        exact app_i (Kp.w q54 (by omega))

def x9_cycle (σ : Sg) : Sg :=
  if (σ 0 25) = 0 then
    σ
  else
    lt (sst σ 0 25 ((σ 0 25) - 1)) fun s15 =>
    lt ((
      if (s15 0 25) = 0 then
        lt (sst s15 1 85 ((s15 1 85) &&& 2)) fun s38 =>
        s38
      else
        s15) : Sg) fun z22 =>
    z22
set_option maxHeartbeats 4000000 in
theorem ok_x9_cycle (σ : Sg) (ok : XOK σ) : XOK (x9_cycle σ) := by
  unfold x9_cycle
  refine ite_pred (fun c4 => ?_) (fun c4 => ?_)
  · exact ok
  · refine lt_pred (fun s15 e15 => ?_)
    have k15 : XOK s15 := by rw [e15]; exact xst_f0_25 ok
    refine jn_pred (fun z22 => XOK z22) (fun z22 h22 => ?_) ?_
    · exact h22
    · refine ite_pred (fun c22 => ?_) (fun c22 => ?_)
      · refine lt_pred (fun s38 e38 => ?_)
        have k38 : XOK s38 := by rw [e38]; exact xst_1 k15 (rg_w (rg_and_r (rg_w (lo2 := 0) rl_2 (by decide) (Int.le_refl _))) (by decide) (by decide))
        have y25_38 : rg 0 0 (s38 0 25) := by rw [e38]; exact (show rg 0 0 (s15 0 25) from (rg_eq c22 rl_0))
        exact app_i k38
      · exact app_i k15

set_option maxHeartbeats 4000000 in
theorem kp_x9_cycle (σ : Sg) {ka kb : Int32} {m : Int} (hk : Kp ka kb m σ) (hm : m ≤ 1500290000) : Kp ka kb m (x9_cycle σ) := by
  have hm0 : 0 ≤ m := hk.nn
  show Kp ka kb m (x9_cycle σ)
  unfold x9_cycle
  refine ite_pred (fun c4 => ?_) (fun c4 => ?_)
  · exact Kp.w hk (by omega)
  · refine lt_pred (fun s15 e15 => ?_)
    have q15 : Kp ka kb m s15 := by rw [e15]; exact Kp.same hk rfl rfl rfl
    refine jn_pred (fun z22 => Kp ka kb m z22) (fun z22 h22 => ?_) ?_
    · exact Kp.w h22 (by omega)
    · refine ite_pred (fun c22 => ?_) (fun c22 => ?_)
      · refine lt_pred (fun s38 e38 => ?_)
        have q38 : Kp ka kb m s38 := by rw [e38]; exact Kp.same q15 rfl rfl rfl
        exact app_i (Kp.w q38 (by omega))
      · exact app_i (Kp.w q15 (by omega))

def x9_clear (σ : Sg) : Sg :=
  lt (sst σ 0 25 0) fun s2 =>
  s2
set_option maxHeartbeats 4000000 in
theorem ok_x9_clear (σ : Sg) (ok : XOK σ) : XOK (x9_clear σ) := by
  unfold x9_clear
  refine lt_pred (fun s2 e2 => ?_)
  have k2 : XOK s2 := by rw [e2]; exact xst_f0_25 ok
  exact k2

set_option maxHeartbeats 4000000 in
theorem kp_x9_clear (σ : Sg) {ka kb : Int32} {m : Int} (hk : Kp ka kb m σ) (hm : m ≤ 1500290000) : Kp ka kb m (x9_clear σ) := by
  have hm0 : 0 ≤ m := hk.nn
  show Kp ka kb m (x9_clear σ)
  unfold x9_clear
  refine lt_pred (fun s2 e2 => ?_)
  have q2 : Kp ka kb m s2 := by rw [e2]; exact Kp.same hk rfl rfl rfl
  exact Kp.w q2 (by omega)

def x3_load (σ : Sg) (x1 : Int32) : Int32 :=
  (σ 1 (x1).toNatClampNeg)
set_option maxHeartbeats 4000000 in
theorem ok_x3_load (σ : Sg) (x1 : Int32) (ok : XOK σ) (hx1 : rg 0 1279 x1) : rg 0 255 (x3_load σ x1) := by
  unfold x3_load
  exact (xr_1 ok _)

def x3_store (σ : Sg) (x1 : Int32) (x2 : Int32) : Sg :=
  lt (sst σ 1 (x1).toNatClampNeg x2) fun s9 =>
  s9
set_option maxHeartbeats 4000000 in
theorem ok_x3_store (σ : Sg) (x1 : Int32) (x2 : Int32) (ok : XOK σ) (hx1 : rg 0 1279 x1) (hx2 : rg 0 255 x2) : XOK (x3_store σ x1 x2) := by
  unfold x3_store
  refine lt_pred (fun s9 e9 => ?_)
  have k9 : XOK s9 := by rw [e9]; exact xst_1 ok hx2
  exact k9

set_option maxHeartbeats 4000000 in
theorem kp_x3_store (σ : Sg) (x1 : Int32) (x2 : Int32) {ka kb : Int32} {m : Int} (hk : Kp ka kb m σ) (hm : m ≤ 1500290000) : Kp ka kb m (x3_store σ x1 x2) := by
  have hm0 : 0 ≤ m := hk.nn
  show Kp ka kb m (x3_store σ x1 x2)
  unfold x3_store
  refine lt_pred (fun s9 e9 => ?_)
  have q9 : Kp ka kb m s9 := by rw [e9]; exact Kp.same hk rfl rfl rfl
  exact Kp.w q9 (by omega)

def x10_empty (σ : Sg) : Sg :=
  lt ((iterN 32 0 (fun i2_1 a2_1 =>
    lt (sst a2_1 5 ((nI i2_1)).toNatClampNeg (-1)) fun s14 =>
    s14) σ) : Sg) fun z2 =>
  z2
set_option maxHeartbeats 4000000 in
theorem ok_x10_empty (σ : Sg) (ok : XOK σ) : XOK (x10_empty σ) := by
  unfold x10_empty
  refine for_pred (N := 32) (fun i a => XOK a) (fun i2_1 a2_1 hi2 ha2 => ?_) (fun z2 hz2 => ?_) 32 0 σ (by omega) ok
  · have fi2 : rg 0 31 (nI i2_1) := rg_of_nI (by omega) (by omega)
    refine lt_pred (fun s14 e14 => ?_)
    have k14 : XOK s14 := by rw [e14]; exact xst_f5 ha2
    exact app_i k14
  · exact hz2

set_option maxHeartbeats 4000000 in
theorem kp_x10_empty (σ : Sg) {ka kb : Int32} {m : Int} (hk : Kp ka kb m σ) (hm : m ≤ 1500290000) : Kp ka kb m (x10_empty σ) := by
  have hm0 : 0 ≤ m := hk.nn
  show Kp ka kb m (x10_empty σ)
  unfold x10_empty
  refine for_pred (N := 32) (fun i a => Kp ka kb m a) (fun i2_1 a2_1 hi2 ha2 => ?_) (fun z2 hz2 => ?_) 32 0 σ (by omega) (Kp.w hk (by omega))
  · refine lt_pred (fun s14 e14 => ?_)
    have q14 : Kp ka kb m s14 := by rw [e14]; exact Kp.same ha2 rfl rfl rfl
    exact app_i (Kp.w q14 (by omega))
  · exact Kp.w hz2 (by omega)

def x10_filled (σ : Sg) : Int32 :=
  lt ((iterN 32 0 (fun i4_1 a4_1 =>
    lt ((
      if (σ 5 ((nI i4_1)).toNatClampNeg) < 0 then
        0
      else
        1) : Int32) fun z17 =>
    lt ((a4_1 + z17) : Int32) fun v26 =>
    v26) 0) : Int32) fun z4 =>
  z4
def x10_store (σ : Sg) (x1 : Int32) (x2 : Int32) : Sg :=
  lt ((σ 1 87) : Int32) fun v10 =>
  if 0 < (σ 0 27) then
    lt (sst σ 1 87 ((v10 &&& 127) ||| (x2 &&& 128))) fun s37 =>
    s37
  else
    lt (sst σ 1 87 ((v10 &&& 64) ||| (x2 &&& 159))) fun s58 =>
    lt ((
      if (x2 &&& 1) = 0 then
        0
      else
        4) : Int32) fun z63 =>
    lt (sst s58 0 26 z63) fun s71 =>
    s71
set_option maxHeartbeats 4000000 in
theorem ok_x10_store (σ : Sg) (x1 : Int32) (x2 : Int32) (ok : XOK σ) (hx2 : rg 0 255 x2) : XOK (x10_store σ x1 x2) := by
  unfold x10_store
  refine lt_pred (fun v10 e10 => ?_)
  have f10 : rg 0 255 v10 := by rw [e10]; exact (xr_1 ok _)
  refine ite_pred (fun c15 => ?_) (fun c15 => ?_)
  · refine lt_pred (fun s37 e37 => ?_)
    have k37 : XOK s37 := by rw [e37]; exact xst_1 ok (rg_or 8 (rg_and_r (rg_w (lo2 := 0) rl_127 (by decide) (Int.le_refl _))) (rg_and_r (rg_w (lo2 := 0) rl_128 (by decide) (Int.le_refl _))) (by decide) (by decide) (by decide))
    have y27_37 : rg 1 2147483647 (s37 0 27) := by rw [e37]; exact (show rg 1 2147483647 (σ 0 27) from (rg_lt_lo (rg_full (σ 0 27)) c15 rl_0))
    exact k37
  · refine lt_pred (fun s58 e58 => ?_)
    have k58 : XOK s58 := by rw [e58]; exact xst_1 ok (rg_or 8 (rg_and_r (rg_w (lo2 := 0) rl_64 (by decide) (Int.le_refl _))) (rg_and_r (rg_w (lo2 := 0) rl_159 (by decide) (Int.le_refl _))) (by decide) (by decide) (by decide))
    have y27_58 : rg (-2147483648) 0 (s58 0 27) := by rw [e58]; exact (show rg (-2147483648) 0 (σ 0 27) from (rg_nlt_hi (rg_full (σ 0 27)) c15 rl_0))
    refine jn_pred (fun z63 => rg 0 4 z63) (fun z63 h63 => ?_) ?_
    · refine lt_pred (fun s71 e71 => ?_)
      have k71 : XOK s71 := by rw [e71]; exact xst_f0_26 k58
      have y27_71 : rg (-2147483648) 0 (s71 0 27) := by rw [e71]; exact (show rg (-2147483648) 0 (s58 0 27) from y27_58)
      exact k71
    · refine ite_pred (fun c63 => ?_) (fun c63 => ?_)
      · exact app_i (rg_w rl_0 (by decide) (by decide))
      · exact app_i (rg_w rl_4 (by decide) (by decide))

set_option maxHeartbeats 4000000 in
theorem kp_x10_store (σ : Sg) (x1 : Int32) (x2 : Int32) {ka kb : Int32} {m : Int} (hk : Kp ka kb m σ) (hm : m ≤ 1500290000) : Kp ka kb m (x10_store σ x1 x2) := by
  have hm0 : 0 ≤ m := hk.nn
  show Kp ka kb m (x10_store σ x1 x2)
  unfold x10_store
  refine lt_pred (fun v10 e10 => ?_)
  refine ite_pred (fun c15 => ?_) (fun c15 => ?_)
  · refine lt_pred (fun s37 e37 => ?_)
    have q37 : Kp ka kb m s37 := by rw [e37]; exact Kp.same hk rfl rfl rfl
    exact Kp.w q37 (by omega)
  · refine lt_pred (fun s58 e58 => ?_)
    have q58 : Kp ka kb m s58 := by rw [e58]; exact Kp.same hk rfl rfl rfl
    refine jn_pred (fun z63 => True) (fun z63 h63 => ?_) ?_
    · refine lt_pred (fun s71 e71 => ?_)
      have q71 : Kp ka kb m s71 := by rw [e71]; exact Kp.same q58 rfl rfl rfl
      exact Kp.w q71 (by omega)
    · refine ite_pred (fun c63 => ?_) (fun c63 => ?_)
      · exact app_i trivial
      · exact app_i trivial

def x10_done (σ : Sg) : Sg :=
  lt (sst σ 1 87 ((σ 1 87) &&& (-32))) fun s14 =>
  s14
set_option maxHeartbeats 4000000 in
theorem ok_x10_done (σ : Sg) (ok : XOK σ) : XOK (x10_done σ) := by
  unfold x10_done
  refine lt_pred (fun s14 e14 => ?_)
  have k14 : XOK s14 := by rw [e14]; exact xst_1 ok (rg_and_l (xr_1 ok _))
  exact k14

set_option maxHeartbeats 4000000 in
theorem kp_x10_done (σ : Sg) {ka kb : Int32} {m : Int} (hk : Kp ka kb m σ) (hm : m ≤ 1500290000) : Kp ka kb m (x10_done σ) := by
  have hm0 : 0 ≤ m := hk.nn
  show Kp ka kb m (x10_done σ)
  unfold x10_done
  refine lt_pred (fun s14 e14 => ?_)
  have q14 : Kp ka kb m s14 := by rw [e14]; exact Kp.same hk rfl rfl rfl
  exact Kp.w q14 (by omega)

def x10_cycle (σ : Sg) : Sg :=
  lt ((
    if 0 < (σ 0 26) then
      lt (sst σ 0 26 ((σ 0 26) - 1)) fun s14 =>
      if (s14 0 26) = 0 then
        lt (x10_done s14) fun s25 =>
        s25
      else
        s14
    else
      σ) : Sg) fun z4 =>
  lt ((
    if 0 < (z4 0 27) then
      lt (sst z4 0 27 ((z4 0 27) - 1)) fun s42 =>
      if (s42 0 27) = 0 then
        lt (x10_done s42) fun s53 =>
        s53
      else
        s42
    else
      z4) : Sg) fun z32 =>
  z32
set_option maxHeartbeats 4000000 in
theorem ok_x10_cycle (σ : Sg) (ok : XOK σ) : XOK (x10_cycle σ) := by
  unfold x10_cycle
  refine jn_pred (fun z4 => XOK z4) (fun z4 h4 => ?_) ?_
  · refine jn_pred (fun z32 => XOK z32) (fun z32 h32 => ?_) ?_
    · exact h32
    · refine ite_pred (fun c32 => ?_) (fun c32 => ?_)
      · refine lt_pred (fun s42 e42 => ?_)
        have k42 : XOK s42 := by rw [e42]; exact xst_f0_27 h4
        refine ite_pred (fun c49 => ?_) (fun c49 => ?_)
        · refine lt_pred (fun s53 e53 => ?_)
          have k53 : XOK s53 := by rw [e53]; exact ok_x10_done s42 k42
          exact app_i k53
        · exact app_i k42
      · exact app_i h4
  · refine ite_pred (fun c4 => ?_) (fun c4 => ?_)
    · refine lt_pred (fun s14 e14 => ?_)
      have k14 : XOK s14 := by rw [e14]; exact xst_f0_26 ok
      refine ite_pred (fun c21 => ?_) (fun c21 => ?_)
      · refine lt_pred (fun s25 e25 => ?_)
        have k25 : XOK s25 := by rw [e25]; exact ok_x10_done s14 k14
        exact app_i k25
      · exact app_i k14
    · exact app_i ok

set_option maxHeartbeats 4000000 in
theorem kp_x10_cycle (σ : Sg) {ka kb : Int32} {m : Int} (hk : Kp ka kb m σ) (hm : m ≤ 1500280000) : Kp ka kb m (x10_cycle σ) := by
  have hm0 : 0 ≤ m := hk.nn
  show Kp ka kb m (x10_cycle σ)
  unfold x10_cycle
  refine jn_pred (fun z4 => Kp ka kb m z4) (fun z4 h4 => ?_) ?_
  · refine jn_pred (fun z32 => Kp ka kb m z32) (fun z32 h32 => ?_) ?_
    · exact Kp.w h32 (by omega)
    · refine ite_pred (fun c32 => ?_) (fun c32 => ?_)
      · refine lt_pred (fun s42 e42 => ?_)
        have q42 : Kp ka kb m s42 := by rw [e42]; exact Kp.same h4 rfl rfl rfl
        refine ite_pred (fun c49 => ?_) (fun c49 => ?_)
        · refine lt_pred (fun s53 e53 => ?_)
          have q53 : Kp ka kb m s53 := by rw [e53]; exact Kp.w (kp_x10_done s42 q42 (by omega)) (by omega)
          exact app_i (Kp.w q53 (by omega))
        · exact app_i (Kp.w q42 (by omega))
      · exact app_i (Kp.w h4 (by omega))
  · refine ite_pred (fun c4 => ?_) (fun c4 => ?_)
    · refine lt_pred (fun s14 e14 => ?_)
      have q14 : Kp ka kb m s14 := by rw [e14]; exact Kp.same hk rfl rfl rfl
      refine ite_pred (fun c21 => ?_) (fun c21 => ?_)
      · refine lt_pred (fun s25 e25 => ?_)
        have q25 : Kp ka kb m s25 := by rw [e25]; exact Kp.w (kp_x10_done s14 q14 (by omega)) (by omega)
        exact app_i (Kp.w q25 (by omega))
      · exact app_i (Kp.w q14 (by omega))
    · exact app_i (Kp.w hk (by omega))

def x10_word (σ : Sg) (x1 : Int32) : Int32 :=
  lt ((
    if (¬ (x1 < 1536)) ∨ (((σ 1 87) &&& 64) = 0) then
      (σ 2 (x1).toNatClampNeg)
    else
      65535) : Int32) fun z4 =>
  z4
set_option maxHeartbeats 4000000 in
theorem ok_x10_word (σ : Sg) (x1 : Int32) (ok : XOK σ) (hx1 : rg 0 2047 x1) : rg 0 65535 (x10_word σ x1) := by
  unfold x10_word
  refine jn_pred (fun z4 => rg 0 65535 z4) (fun z4 h4 => ?_) ?_
  · exact h4
  · refine ite_pred (fun c4 => ?_) (fun c4 => ?_)
    · exact app_i (xr_2 ok _)
    · exact app_i (rg_w rl_65535 (by decide) (by decide))

def x10_read (σ : Sg) (x1 : Int32) (x2 : Int32) : Int32 × Sg :=
  if (0 < (σ 0 26)) ∧ (((σ 1 87) &&& 30) = 8) then
    lt (sst σ 0 26 0) fun s27 =>
    lt (x10_done s27) fun s31 =>
    lt ((
      if x1 = 1 then
        ((s31 0 28) ||| 240)
      else
        if x1 = 0 then
          ((s31 0 29) ||| 254)
        else
          255) : Int32) fun z36 =>
    (z36, s31)
  else
    lt (((x1 >>> (1 : Int32)) &&& 2047) : Int32) fun v76 =>
    lt ((
      if v76 < 1536 then
        0
      else
        1) : Int32) fun z81 =>
    if z81 = x2 then
      lt ((x10_word σ v76) : Int32) fun v126 =>
      lt ((
        if (x1 &&& 1) = 0 then
          (v126 &&& 255)
        else
          (v126 >>> (8 : Int32))) : Int32) fun z131 =>
      (z131, σ)
    else
      lt ((
        if z81 = 0 then
          1
        else
          3) : Int32) fun z103 =>
      if (((σ 0 28) >>> (z103 &&& 31)) &&& 1) = 0 then
        (255, σ)
      else
        lt ((x10_word σ v76) : Int32) fun v126_1 =>
        lt ((
          if (x1 &&& 1) = 0 then
            (v126_1 &&& 255)
          else
            (v126_1 >>> (8 : Int32))) : Int32) fun z131_1 =>
        (z131_1, σ)
set_option maxHeartbeats 4000000 in
theorem ok_x10_read (σ : Sg) (x1 : Int32) (x2 : Int32) (ok : XOK σ) (hx2 : rg 0 1 x2) : (Pri XOK 0 255) (x10_read σ x1 x2) := by
  unfold x10_read
  refine ite_pred (fun c4 => ?_) (fun c4 => ?_)
  · refine lt_pred (fun s27 e27 => ?_)
    have k27 : XOK s27 := by rw [e27]; exact xst_f0_26 ok
    refine lt_pred (fun s31 e31 => ?_)
    have k31 : XOK s31 := by rw [e31]; exact ok_x10_done s27 k27
    refine jn_pred (fun z36 => rg 0 255 z36) (fun z36 h36 => ?_) ?_
    · exact ⟨k31, h36⟩
    · refine ite_pred (fun c36 => ?_) (fun c36 => ?_)
      · exact app_i (rg_or 8 (xr0_28 k31) (rg_w (lo2 := 0) rl_240 (by decide) (Int.le_refl _)) (by decide) (by decide) (by decide))
      · refine ite_pred (fun c51 => ?_) (fun c51 => ?_)
        · exact app_i (rg_or 8 (xr0_29 k31) (rg_w (lo2 := 0) rl_254 (by decide) (Int.le_refl _)) (by decide) (by decide) (by decide))
        · exact app_i (rg_w rl_255 (by decide) (by decide))
  · refine lt_pred (fun v76 e76 => ?_)
    have f76 : rg 0 2047 v76 := by rw [e76]; exact (rg_and_r (rg_w (lo2 := 0) rl_2047 (by decide) (Int.le_refl _)))
    refine jn_pred (fun z81 => rg 0 1 z81) (fun z81 h81 => ?_) ?_
    · refine ite_pred (fun c94 => ?_) (fun c94 => ?_)
      · refine lt_pred (fun v126 e126 => ?_)
        have f126 : rg 0 65535 v126 := by rw [e126]; exact (ok_x10_word σ v76 ok f76)
        refine jn_pred (fun z131 => rg 0 255 z131) (fun z131 h131 => ?_) ?_
        · exact ⟨ok, h131⟩
        · refine ite_pred (fun c131 => ?_) (fun c131 => ?_)
          · exact app_i (rg_and_r (rg_w (lo2 := 0) rl_255 (by decide) (Int.le_refl _)))
          · exact app_i (rg_shr 8 (by decide +kernel) f126)
      · refine jn_pred (fun z103 => rg 1 3 z103) (fun z103 h103 => ?_) ?_
        · refine ite_pred (fun c114 => ?_) (fun c114 => ?_)
          · exact ⟨ok, (rg_w rl_255 (by decide) (by decide))⟩
          · refine lt_pred (fun v126_1 e126_1 => ?_)
            have f126_1 : rg 0 65535 v126_1 := by rw [e126_1]; exact (ok_x10_word σ v76 ok f76)
            refine jn_pred (fun z131_1 => rg 0 255 z131_1) (fun z131_1 h131_1 => ?_) ?_
            · exact ⟨ok, h131_1⟩
            · refine ite_pred (fun c131_1 => ?_) (fun c131_1 => ?_)
              · exact app_i (rg_and_r (rg_w (lo2 := 0) rl_255 (by decide) (Int.le_refl _)))
              · exact app_i (rg_shr 8 (by decide +kernel) f126_1)
        · refine ite_pred (fun c103 => ?_) (fun c103 => ?_)
          · exact app_i (rg_w rl_1 (by decide) (by decide))
          · exact app_i (rg_w rl_3 (by decide) (by decide))
    · refine ite_pred (fun c81 => ?_) (fun c81 => ?_)
      · exact app_i (rg_w rl_0 (by decide) (by decide))
      · exact app_i (rg_w rl_1 (by decide) (by decide))

set_option maxHeartbeats 4000000 in
theorem kp_x10_read (σ : Sg) (x1 : Int32) (x2 : Int32) {ka kb : Int32} {m : Int} (hk : Kp ka kb m σ) (hm : m ≤ 1500280000) : Kp ka kb m (x10_read σ x1 x2).2 := by
  have hm0 : 0 ≤ m := hk.nn
  show Kpi ka kb m (x10_read σ x1 x2)
  unfold x10_read
  refine ite_pred (fun c4 => ?_) (fun c4 => ?_)
  · refine lt_pred (fun s27 e27 => ?_)
    have q27 : Kp ka kb m s27 := by rw [e27]; exact Kp.same hk rfl rfl rfl
    refine lt_pred (fun s31 e31 => ?_)
    have q31 : Kp ka kb m s31 := by rw [e31]; exact Kp.w (kp_x10_done s27 q27 (by omega)) (by omega)
    refine jn_pred (fun z36 => True) (fun z36 h36 => ?_) ?_
    · exact Kp.w q31 (by omega)
    · refine ite_pred (fun c36 => ?_) (fun c36 => ?_)
      · exact app_i trivial
      · refine ite_pred (fun c51 => ?_) (fun c51 => ?_)
        · exact app_i trivial
        · exact app_i trivial
  · refine lt_pred (fun v76 e76 => ?_)
    refine jn_pred (fun z81 => True) (fun z81 h81 => ?_) ?_
    · refine ite_pred (fun c94 => ?_) (fun c94 => ?_)
      · refine lt_pred (fun v126 e126 => ?_)
        refine jn_pred (fun z131 => True) (fun z131 h131 => ?_) ?_
        · exact Kp.w hk (by omega)
        · refine ite_pred (fun c131 => ?_) (fun c131 => ?_)
          · exact app_i trivial
          · exact app_i trivial
      · refine jn_pred (fun z103 => True) (fun z103 h103 => ?_) ?_
        · refine ite_pred (fun c114 => ?_) (fun c114 => ?_)
          · exact Kp.w hk (by omega)
          · refine lt_pred (fun v126_1 e126_1 => ?_)
            refine jn_pred (fun z131_1 => True) (fun z131_1 h131_1 => ?_) ?_
            · exact Kp.w hk (by omega)
            · refine ite_pred (fun c131_1 => ?_) (fun c131_1 => ?_)
              · exact app_i trivial
              · exact app_i trivial
        · refine ite_pred (fun c103 => ?_) (fun c103 => ?_)
          · exact app_i trivial
          · exact app_i trivial
    · refine ite_pred (fun c81 => ?_) (fun c81 => ?_)
      · exact app_i trivial
      · exact app_i trivial

def x10_page (σ : Sg) (x1 : Int32) (x2 : Int32) : Sg :=
  lt ((
    if (x1 * 32) < 1536 then
      0
    else
      1) : Int32) fun z7 =>
  lt ((
    if z7 = 0 then
      0
    else
      2) : Int32) fun z21 =>
  if (((σ 0 28) >>> (z21 &&& 31)) &&& 1) = 0 then
    lt (x10_done σ) fun s36 =>
    s36
  else
    lt ((iterN 32 0 (fun i43_1 a43_1 =>
      lt ((
        if x2 = 0 then
          if (a43_1 5 ((nI i43_1)).toNatClampNeg) < 0 then
            a43_1
          else
            lt (((x1 * 32) + (nI i43_1)) : Int32) fun v92 =>
            lt (sst a43_1 2 (v92).toNatClampNeg ((((a43_1 2 (v92).toNatClampNeg) &&& (a43_1 5 ((nI i43_1)).toNatClampNeg))).toUInt32 % 65536).toInt32) fun s103 =>
            s103
        else
          lt (sst a43_1 2 (((x1 * 32) + (nI i43_1))).toNatClampNeg 65535) fun s67 =>
          s67) : Sg) fun z51 =>
      z51) σ) : Sg) fun z43 =>
    lt ((
      if x2 = 0 then
        lt (x10_empty z43) fun s115 =>
        s115
      else
        z43) : Sg) fun z111 =>
    lt ((
      if z7 = 0 then
        lt (sst z111 1 87 ((z111 1 87) ||| 64)) fun s158 =>
        lt (sst s158 0 27 8000) fun s163 =>
        s163
      else
        lt (x10_done z111) fun s123 =>
        lt (sst s123 0 1 ((s123 0 1) + 8000)) fun s138 =>
        s138) : Sg) fun z119 =>
    z119
set_option maxHeartbeats 4000000 in
theorem ok_x10_page (σ : Sg) (x1 : Int32) (x2 : Int32) (ok : XOK σ) (hx1 : rg 0 63 x1) (hx2 : rg 0 1 x2) : XOK (x10_page σ x1 x2) := by
  unfold x10_page
  refine jn_pred (fun z7 => rg 0 1 z7) (fun z7 h7 => ?_) ?_
  · refine jn_pred (fun z21 => rg 0 2 z21) (fun z21 h21 => ?_) ?_
    · refine ite_pred (fun c32 => ?_) (fun c32 => ?_)
      · refine lt_pred (fun s36 e36 => ?_)
        have k36 : XOK s36 := by rw [e36]; exact ok_x10_done σ ok
        exact k36
      · refine for_pred (N := 32) (fun i a => XOK a) (fun i43_1 a43_1 hi43 ha43 => ?_) (fun z43 hz43 => ?_) 32 0 σ (by omega) ok
        · have fi43 : rg 0 31 (nI i43_1) := rg_of_nI (by omega) (by omega)
          refine jn_pred (fun z51 => XOK z51) (fun z51 h51 => ?_) ?_
          · exact app_i h51
          · refine ite_pred (fun c51 => ?_) (fun c51 => ?_)
            · refine ite_pred (fun c78 => ?_) (fun c78 => ?_)
              · exact app_i ha43
              · refine lt_pred (fun v92 e92 => ?_)
                have f92 : rg 0 2047 v92 := by rw [e92]; exact (rg_add (rg_mul hx1 (rg_w (lo2 := 0) rl_32 (by decide) (Int.le_refl _)) (by decide)) fi43 (by decide) (by decide))
                refine lt_pred (fun s103 e103 => ?_)
                have k103 : XOK s103 := by rw [e103]; exact xst_2 ha43 (rg_i2c _)
                exact app_i k103
            · refine lt_pred (fun s67 e67 => ?_)
              have k67 : XOK s67 := by rw [e67]; exact xst_2 ha43 (rg_w rl_65535 (by decide) (by decide))
              exact app_i k67
        · refine jn_pred (fun z111 => XOK z111) (fun z111 h111 => ?_) ?_
          · refine jn_pred (fun z119 => XOK z119) (fun z119 h119 => ?_) ?_
            · exact h119
            · refine ite_pred (fun c119 => ?_) (fun c119 => ?_)
              · refine lt_pred (fun s158 e158 => ?_)
                have k158 : XOK s158 := by rw [e158]; exact xst_1 h111 (rg_or 8 (xr_1 h111 _) (rg_w (lo2 := 0) rl_64 (by decide) (Int.le_refl _)) (by decide) (by decide) (by decide))
                refine lt_pred (fun s163 e163 => ?_)
                have k163 : XOK s163 := by rw [e163]; exact xst_f0_27 k158
                exact app_i k163
              · refine lt_pred (fun s123 e123 => ?_)
                have k123 : XOK s123 := by rw [e123]; exact ok_x10_done z111 h111
                refine lt_pred (fun s138 e138 => ?_)
                have k138 : XOK s138 := by rw [e138]; exact xst_f0_1 k123
                exact app_i k138
          · refine ite_pred (fun c111 => ?_) (fun c111 => ?_)
            · refine lt_pred (fun s115 e115 => ?_)
              have k115 : XOK s115 := by rw [e115]; exact ok_x10_empty z43 hz43
              exact app_i k115
            · exact app_i hz43
    · refine ite_pred (fun c21 => ?_) (fun c21 => ?_)
      · exact app_i (rg_w rl_0 (by decide) (by decide))
      · exact app_i (rg_w rl_2 (by decide) (by decide))
  · refine ite_pred (fun c7 => ?_) (fun c7 => ?_)
    · exact app_i (rg_w rl_0 (by decide) (by decide))
    · exact app_i (rg_w rl_1 (by decide) (by decide))

set_option maxHeartbeats 4000000 in
theorem kp_x10_page (σ : Sg) (x1 : Int32) (x2 : Int32) {ka kb : Int32} {m : Int} (hk : Kp ka kb m σ) (hm : m ≤ 1500280000) : Kp ka kb (m + 8000) (x10_page σ x1 x2) := by
  have hm0 : 0 ≤ m := hk.nn
  show Kp ka kb (m + 8000) (x10_page σ x1 x2)
  unfold x10_page
  refine jn_pred (fun z7 => True) (fun z7 h7 => ?_) ?_
  · refine jn_pred (fun z21 => True) (fun z21 h21 => ?_) ?_
    · refine ite_pred (fun c32 => ?_) (fun c32 => ?_)
      · refine lt_pred (fun s36 e36 => ?_)
        have q36 : Kp ka kb m s36 := by rw [e36]; exact Kp.w (kp_x10_done σ hk (by omega)) (by omega)
        exact Kp.w q36 (by omega)
      · refine for_pred (N := 32) (fun i a => Kp ka kb m a) (fun i43_1 a43_1 hi43 ha43 => ?_) (fun z43 hz43 => ?_) 32 0 σ (by omega) (Kp.w hk (by omega))
        · refine jn_pred (fun z51 => Kp ka kb m z51) (fun z51 h51 => ?_) ?_
          · exact app_i (Kp.w h51 (by omega))
          · refine ite_pred (fun c51 => ?_) (fun c51 => ?_)
            · refine ite_pred (fun c78 => ?_) (fun c78 => ?_)
              · exact app_i (Kp.w ha43 (by omega))
              · refine lt_pred (fun v92 e92 => ?_)
                refine lt_pred (fun s103 e103 => ?_)
                have q103 : Kp ka kb m s103 := by rw [e103]; exact Kp.same ha43 rfl rfl rfl
                exact app_i (Kp.w q103 (by omega))
            · refine lt_pred (fun s67 e67 => ?_)
              have q67 : Kp ka kb m s67 := by rw [e67]; exact Kp.same ha43 rfl rfl rfl
              exact app_i (Kp.w q67 (by omega))
        · refine jn_pred (fun z111 => Kp ka kb m z111) (fun z111 h111 => ?_) ?_
          · refine jn_pred (fun z119 => Kp ka kb (m + 8000) z119) (fun z119 h119 => ?_) ?_
            · exact Kp.w h119 (by omega)
            · refine ite_pred (fun c119 => ?_) (fun c119 => ?_)
              · refine lt_pred (fun s158 e158 => ?_)
                have q158 : Kp ka kb m s158 := by rw [e158]; exact Kp.same h111 rfl rfl rfl
                refine lt_pred (fun s163 e163 => ?_)
                have q163 : Kp ka kb m s163 := by rw [e163]; exact Kp.same q158 rfl rfl rfl
                exact app_i (Kp.w q163 (by omega))
              · refine lt_pred (fun s123 e123 => ?_)
                have q123 : Kp ka kb m s123 := by rw [e123]; exact Kp.w (kp_x10_done z111 h111 (by omega)) (by omega)
                refine lt_pred (fun s138 e138 => ?_)
                have q138 : Kp ka kb (m + 8000) s138 := by rw [e138]; exact Kp.add q123 rl_8000 (by omega) (by omega)
                exact app_i (Kp.w q138 (by omega))
          · refine ite_pred (fun c111 => ?_) (fun c111 => ?_)
            · refine lt_pred (fun s115 e115 => ?_)
              have q115 : Kp ka kb m s115 := by rw [e115]; exact Kp.w (kp_x10_empty z43 hz43 (by omega)) (by omega)
              exact app_i (Kp.w q115 (by omega))
            · exact app_i (Kp.w hz43 (by omega))
    · refine ite_pred (fun c21 => ?_) (fun c21 => ?_)
      · exact app_i trivial
      · exact app_i trivial
  · refine ite_pred (fun c7 => ?_) (fun c7 => ?_)
    · exact app_i trivial
    · exact app_i trivial

def x10_stores (σ : Sg) (x1 : Int32) (x2 : Int32) : Sg :=
  if (x2 = 0) ∨ ((0 < (σ 0 27)) ∨ ((σ 0 26) = 0)) then
    σ
  else
    lt (sst σ 0 26 0) fun s21 =>
    lt ((((s21 1 87) >>> (1 : Int32)) &&& 15) : Int32) fun v39 =>
    if (v39 = 1) ∨ (v39 = 2) then
      lt ((
        if v39 = 1 then
          1
        else
          0) : Int32) fun z60 =>
      lt (x10_page s21 ((x1 >>> (6 : Int32)) &&& 63) z60) fun s68 =>
      s68
    else
      lt ((
        if (v39 = 0) ∧ ((s21 5 (((x1 >>> (1 : Int32)) &&& 31)).toNatClampNeg) < 0) then
          lt (sst s21 5 (((x1 >>> (1 : Int32)) &&& 31)).toNatClampNeg (((s21 1 1) <<< (8 : Int32)) ||| (s21 1 0))) fun s122 =>
          s122
        else
          s21) : Sg) fun z73 =>
      lt ((
        if v39 = 8 then
          lt (sst z73 1 87 ((z73 1 87) &&& (-65))) fun s143 =>
          lt (x10_empty s143) fun s145 =>
          s145
        else
          z73) : Sg) fun z126 =>
      lt ((
        if v39 = 4 then
          lt (sst z126 0 28 ((z126 0 28) &&& (((z126 1 0) >>> (2 : Int32)) ||| (-16)))) fun s173 =>
          s173
        else
          z126) : Sg) fun z150 =>
      lt (x10_done z150) fun s177 =>
      s177
set_option maxHeartbeats 4000000 in
theorem ok_x10_stores (σ : Sg) (x1 : Int32) (x2 : Int32) (ok : XOK σ) (hx2 : rg 0 1 x2) : XOK (x10_stores σ x1 x2) := by
  unfold x10_stores
  refine ite_pred (fun c1 => ?_) (fun c1 => ?_)
  · exact ok
  · refine lt_pred (fun s21 e21 => ?_)
    have k21 : XOK s21 := by rw [e21]; exact xst_f0_26 ok
    have y27_21 : rg (-2147483648) 0 (s21 0 27) := by rw [e21]; exact (show rg (-2147483648) 0 (σ 0 27) from (rg_nlt_hi (rg_full (σ 0 27)) (fun w8 => (fun w6 => c1 (Or.inr w6)) (Or.inl w8)) rl_0))
    refine lt_pred (fun v39 e39 => ?_)
    have f39 : rg 0 15 v39 := by rw [e39]; exact (rg_and_r (rg_w (lo2 := 0) rl_15 (by decide) (Int.le_refl _)))
    refine ite_pred (fun c42 => ?_) (fun c42 => ?_)
    · refine jn_pred (fun z60 => rg 0 1 z60) (fun z60 h60 => ?_) ?_
      · refine lt_pred (fun s68 e68 => ?_)
        have k68 : XOK s68 := by rw [e68]; exact ok_x10_page s21 ((x1 >>> (6 : Int32)) &&& 63) z60 k21 (rg_and_r (rg_w (lo2 := 0) rl_63 (by decide) (Int.le_refl _))) h60
        exact k68
      · refine ite_pred (fun c60 => ?_) (fun c60 => ?_)
        · exact app_i (rg_w rl_1 (by decide) (by decide))
        · exact app_i (rg_w rl_0 (by decide) (by decide))
    · refine jn_pred (fun z73 => XOK z73 ∧ rg (-2147483648) 0 (z73 0 27)) (fun z73 h73 => ?_) ?_
      · refine jn_pred (fun z126 => XOK z126) (fun z126 h126 => ?_) ?_
        · refine jn_pred (fun z150 => XOK z150) (fun z150 h150 => ?_) ?_
          · refine lt_pred (fun s177 e177 => ?_)
            have k177 : XOK s177 := by rw [e177]; exact ok_x10_done z150 h150
            exact k177
          · refine ite_pred (fun c150 => ?_) (fun c150 => ?_)
            · refine lt_pred (fun s173 e173 => ?_)
              have k173 : XOK s173 := by rw [e173]; exact xst_0_28 h126 (rg_and_l (xr0_28 h126))
              exact app_i k173
            · exact app_i h126
        · refine ite_pred (fun c126 => ?_) (fun c126 => ?_)
          · refine lt_pred (fun s143 e143 => ?_)
            have k143 : XOK s143 := by rw [e143]; exact xst_1 h73.1 (rg_and_l (xr_1 h73.1 _))
            have y27_143 : rg (-2147483648) 0 (s143 0 27) := by rw [e143]; exact (show rg (-2147483648) 0 (z73 0 27) from h73.2)
            refine lt_pred (fun s145 e145 => ?_)
            have k145 : XOK s145 := by rw [e145]; exact ok_x10_empty s143 k143
            exact app_i k145
          · exact app_i h73.1
      · refine ite_pred (fun c73 => ?_) (fun c73 => ?_)
        · refine lt_pred (fun s122 e122 => ?_)
          have k122 : XOK s122 := by rw [e122]; exact xst_f5 k21
          have y27_122 : rg (-2147483648) 0 (s122 0 27) := by rw [e122]; exact (show rg (-2147483648) 0 (s21 0 27) from y27_21)
          exact app_i ⟨k122, (rg_w y27_122 (by decide) (by decide))⟩
        · exact app_i ⟨k21, (rg_w y27_21 (by decide) (by decide))⟩

set_option maxHeartbeats 4000000 in
theorem kp_x10_stores (σ : Sg) (x1 : Int32) (x2 : Int32) {ka kb : Int32} {m : Int} (hk : Kp ka kb m σ) (hm : m ≤ 1500270000) : Kp ka kb (m + 8000) (x10_stores σ x1 x2) := by
  have hm0 : 0 ≤ m := hk.nn
  show Kp ka kb (m + 8000) (x10_stores σ x1 x2)
  unfold x10_stores
  refine ite_pred (fun c1 => ?_) (fun c1 => ?_)
  · exact Kp.w hk (by omega)
  · refine lt_pred (fun s21 e21 => ?_)
    have q21 : Kp ka kb m s21 := by rw [e21]; exact Kp.same hk rfl rfl rfl
    refine lt_pred (fun v39 e39 => ?_)
    refine ite_pred (fun c42 => ?_) (fun c42 => ?_)
    · refine jn_pred (fun z60 => True) (fun z60 h60 => ?_) ?_
      · refine lt_pred (fun s68 e68 => ?_)
        have q68 : Kp ka kb (m + 8000) s68 := by rw [e68]; exact Kp.w (kp_x10_page s21 ((x1 >>> (6 : Int32)) &&& 63) z60 q21 (by omega)) (by omega)
        exact Kp.w q68 (by omega)
      · refine ite_pred (fun c60 => ?_) (fun c60 => ?_)
        · exact app_i trivial
        · exact app_i trivial
    · refine jn_pred (fun z73 => Kp ka kb m z73) (fun z73 h73 => ?_) ?_
      · refine jn_pred (fun z126 => Kp ka kb m z126) (fun z126 h126 => ?_) ?_
        · refine jn_pred (fun z150 => Kp ka kb m z150) (fun z150 h150 => ?_) ?_
          · refine lt_pred (fun s177 e177 => ?_)
            have q177 : Kp ka kb m s177 := by rw [e177]; exact Kp.w (kp_x10_done z150 h150 (by omega)) (by omega)
            exact Kp.w q177 (by omega)
          · refine ite_pred (fun c150 => ?_) (fun c150 => ?_)
            · refine lt_pred (fun s173 e173 => ?_)
              have q173 : Kp ka kb m s173 := by rw [e173]; exact Kp.same h126 rfl rfl rfl
              exact app_i (Kp.w q173 (by omega))
            · exact app_i (Kp.w h126 (by omega))
        · refine ite_pred (fun c126 => ?_) (fun c126 => ?_)
          · refine lt_pred (fun s143 e143 => ?_)
            have q143 : Kp ka kb m s143 := by rw [e143]; exact Kp.same h73 rfl rfl rfl
            refine lt_pred (fun s145 e145 => ?_)
            have q145 : Kp ka kb m s145 := by rw [e145]; exact Kp.w (kp_x10_empty s143 q143 (by omega)) (by omega)
            exact app_i (Kp.w q145 (by omega))
          · exact app_i (Kp.w h73 (by omega))
      · refine ite_pred (fun c73 => ?_) (fun c73 => ?_)
        · refine lt_pred (fun s122 e122 => ?_)
          have q122 : Kp ka kb m s122 := by rw [e122]; exact Kp.same q21 rfl rfl rfl
          exact app_i (Kp.w q122 (by omega))
        · exact app_i (Kp.w q21 (by omega))

def x10_clear (σ : Sg) : Sg :=
  lt (sst σ 0 26 0) fun s2 =>
  lt (sst s2 0 27 0) fun s7 =>
  lt (x10_empty s7) fun s11 =>
  s11
set_option maxHeartbeats 4000000 in
theorem ok_x10_clear (σ : Sg) (ok : XOK σ) : XOK (x10_clear σ) := by
  unfold x10_clear
  refine lt_pred (fun s2 e2 => ?_)
  have k2 : XOK s2 := by rw [e2]; exact xst_f0_26 ok
  refine lt_pred (fun s7 e7 => ?_)
  have k7 : XOK s7 := by rw [e7]; exact xst_f0_27 k2
  refine lt_pred (fun s11 e11 => ?_)
  have k11 : XOK s11 := by rw [e11]; exact ok_x10_empty s7 k7
  exact k11

set_option maxHeartbeats 4000000 in
theorem kp_x10_clear (σ : Sg) {ka kb : Int32} {m : Int} (hk : Kp ka kb m σ) (hm : m ≤ 1500280000) : Kp ka kb m (x10_clear σ) := by
  have hm0 : 0 ≤ m := hk.nn
  show Kp ka kb m (x10_clear σ)
  unfold x10_clear
  refine lt_pred (fun s2 e2 => ?_)
  have q2 : Kp ka kb m s2 := by rw [e2]; exact Kp.same hk rfl rfl rfl
  refine lt_pred (fun s7 e7 => ?_)
  have q7 : Kp ka kb m s7 := by rw [e7]; exact Kp.same q2 rfl rfl rfl
  refine lt_pred (fun s11 e11 => ?_)
  have q11 : Kp ka kb m s11 := by rw [e11]; exact Kp.w (kp_x10_empty s7 q7 (by omega)) (by omega)
  exact Kp.w q11 (by omega)

