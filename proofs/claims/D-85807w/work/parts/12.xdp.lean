/-! CORE 2: pure functions and their invariant -/
set_option maxRecDepth 100000
def x2_reset (σ : Sg) (x1 : Int32) : Sg :=
  if x1 = 0 then
    lt ((0 ||| ((1 : Int32) <<< (x1 &&& 31))) : Int32) fun v19 =>
    lt ((iterN 1280 0 (fun i31_1 a31_1 =>
      lt (sst a31_1 1 ((nI i31_1)).toNatClampNeg 0) fun s54 =>
      s54) σ) : Sg) fun z31 =>
    lt (sst z31 1 84 v19) fun s68 =>
    lt ((iterN 256 0 (fun i81_1 a81_1 =>
      if (nI i81_1) = 35 then
        lt (x4_clear a81_1) fun s101 =>
        s101
      else
        if (nI i81_1) = 53 then
          lt (x5_clear a81_1) fun s101_1 =>
          s101_1
        else
          if (((nI i81_1) = 63) ∨ ((nI i81_1) = 64)) ∨ ((nI i81_1) = 65) then
            lt (x7_clear a81_1) fun s101_2 =>
            s101_2
          else
            if ((nI i81_1) = 84) ∨ ((nI i81_1) = 85) then
              lt (x9_clear a81_1) fun s101_3 =>
              s101_3
            else
              if (nI i81_1) = 87 then
                lt (x10_clear a81_1) fun s101_4 =>
                s101_4
              else
                if (nI i81_1) = 96 then
                  lt (x8_clear a81_1) fun s101_5 =>
                  s101_5
                else
                  if (((nI i81_1) = 192) ∨ ((nI i81_1) = 193)) ∨ ((nI i81_1) = 198) then
                    lt (x6_clear a81_1) fun s101_6 =>
                    s101_6
                  else
                    if ((((((((((((((((nI i81_1) = 36) ∨ ((nI i81_1) = 37)) ∨ ((nI i81_1) = 62)) ∨ ((nI i81_1) = 68)) ∨ ((nI i81_1) = 69)) ∨ ((nI i81_1) = 70)) ∨ ((nI i81_1) = 71)) ∨ ((nI i81_1) = 74)) ∨ ((nI i81_1) = 75)) ∨ ((nI i81_1) = 93)) ∨ ((nI i81_1) = 94)) ∨ ((nI i81_1) = 95)) ∨ ((nI i81_1) = 110)) ∨ ((nI i81_1) = 194)) ∨ ((nI i81_1) = 196)) ∨ ((nI i81_1) = 197) then
                      lt (x11_clear a81_1) fun s101_7 =>
                      s101_7
                    else
                      a81_1) s68) : Sg) fun z81 =>
    lt ((
      if (v19 &&& 8) = 0 then
        z81
      else
        lt (sst z81 1 96 8) fun s125 =>
        s125) : Sg) fun z114 =>
    lt ((
      if (z114 0 29) = 1 then
        1536
      else
        0) : Int32) fun z135 =>
    lt (sst z114 0 0 z135) fun s145 =>
    lt (sst s145 0 6 0) fun s150 =>
    lt (sst s150 0 7 0) fun s155 =>
    lt (sst s155 0 30 0) fun s160 =>
    s160
  else
    lt (((σ 1 84) ||| ((1 : Int32) <<< (x1 &&& 31))) : Int32) fun v19_1 =>
    lt ((iterN 224 32 (fun i31_3 a31_3 =>
      lt (sst a31_3 1 ((nI i31_3)).toNatClampNeg 0) fun s54_1 =>
      s54_1) σ) : Sg) fun z31_1 =>
    lt (sst z31_1 1 84 v19_1) fun s68_1 =>
    lt ((iterN 256 0 (fun i81_3 a81_3 =>
      if (nI i81_3) = 35 then
        lt (x4_clear a81_3) fun s101_8 =>
        s101_8
      else
        if (nI i81_3) = 53 then
          lt (x5_clear a81_3) fun s101_9 =>
          s101_9
        else
          if (((nI i81_3) = 63) ∨ ((nI i81_3) = 64)) ∨ ((nI i81_3) = 65) then
            lt (x7_clear a81_3) fun s101_10 =>
            s101_10
          else
            if ((nI i81_3) = 84) ∨ ((nI i81_3) = 85) then
              lt (x9_clear a81_3) fun s101_11 =>
              s101_11
            else
              if (nI i81_3) = 87 then
                lt (x10_clear a81_3) fun s101_12 =>
                s101_12
              else
                if (nI i81_3) = 96 then
                  lt (x8_clear a81_3) fun s101_13 =>
                  s101_13
                else
                  if (((nI i81_3) = 192) ∨ ((nI i81_3) = 193)) ∨ ((nI i81_3) = 198) then
                    lt (x6_clear a81_3) fun s101_14 =>
                    s101_14
                  else
                    if ((((((((((((((((nI i81_3) = 36) ∨ ((nI i81_3) = 37)) ∨ ((nI i81_3) = 62)) ∨ ((nI i81_3) = 68)) ∨ ((nI i81_3) = 69)) ∨ ((nI i81_3) = 70)) ∨ ((nI i81_3) = 71)) ∨ ((nI i81_3) = 74)) ∨ ((nI i81_3) = 75)) ∨ ((nI i81_3) = 93)) ∨ ((nI i81_3) = 94)) ∨ ((nI i81_3) = 95)) ∨ ((nI i81_3) = 110)) ∨ ((nI i81_3) = 194)) ∨ ((nI i81_3) = 196)) ∨ ((nI i81_3) = 197) then
                      lt (x11_clear a81_3) fun s101_15 =>
                      s101_15
                    else
                      a81_3) s68_1) : Sg) fun z81_1 =>
    lt ((
      if (v19_1 &&& 8) = 0 then
        z81_1
      else
        lt (sst z81_1 1 96 8) fun s125_1 =>
        s125_1) : Sg) fun z114_1 =>
    lt ((
      if (z114_1 0 29) = 1 then
        1536
      else
        0) : Int32) fun z135_1 =>
    lt (sst z114_1 0 0 z135_1) fun s145_1 =>
    lt (sst s145_1 0 6 0) fun s150_1 =>
    lt (sst s150_1 0 7 0) fun s155_1 =>
    lt (sst s155_1 0 30 0) fun s160_1 =>
    s160_1
set_option maxHeartbeats 4000000 in
theorem ok_x2_reset (σ : Sg) (x1 : Int32) (ok : XOK σ) (hx1 : rg 0 3 x1) : XOK (x2_reset σ x1) := by
  unfold x2_reset
  refine ite_pred (fun hsp => ?_) (fun hsp => ?_)
  · refine lt_pred (fun v19 e19 => ?_)
    have f19 : rg 0 255 v19 := by rw [e19]; exact (rg_or 8 rl_0 (rg_bit (rg_eq hsp rl_0) (by decide)) (by decide) (by decide) (by decide))
    refine for_pred (N := 1280) (fun i a => XOK a) (fun i31_1 a31_1 hi31 ha31 => ?_) (fun z31 hz31 => ?_) 1280 0 σ (by omega) ok
    · have fi31 : rg 0 1279 (nI i31_1) := rg_of_nI (by omega) (by omega)
      refine lt_pred (fun s54 e54 => ?_)
      have k54 : XOK s54 := by rw [e54]; exact xst_1 ha31 (rg_w rl_0 (by decide) (by decide))
      exact app_i k54
    · refine lt_pred (fun s68 e68 => ?_)
      have k68 : XOK s68 := by rw [e68]; exact xst_1 hz31 f19
      refine for_pred (N := 256) (fun i a => XOK a) (fun i81_1 a81_1 hi81 ha81 => ?_) (fun z81 hz81 => ?_) 256 0 s68 (by omega) k68
      · have fi81 : rg 0 255 (nI i81_1) := rg_of_nI (by omega) (by omega)
        refine ite_pred (fun c91_0 => ?_) (fun c91_0 => ?_)
        · refine lt_pred (fun s101 e101 => ?_)
          have k101 : XOK s101 := by rw [e101]; exact ok_x4_clear a81_1 ha81
          exact app_i k101
        · refine ite_pred (fun c91_1 => ?_) (fun c91_1 => ?_)
          · refine lt_pred (fun s101_1 e101_1 => ?_)
            have k101_1 : XOK s101_1 := by rw [e101_1]; exact ok_x5_clear a81_1 ha81
            exact app_i k101_1
          · refine ite_pred (fun c91_2 => ?_) (fun c91_2 => ?_)
            · refine lt_pred (fun s101_2 e101_2 => ?_)
              have k101_2 : XOK s101_2 := by rw [e101_2]; exact ok_x7_clear a81_1 ha81
              exact app_i k101_2
            · refine ite_pred (fun c91_3 => ?_) (fun c91_3 => ?_)
              · refine lt_pred (fun s101_3 e101_3 => ?_)
                have k101_3 : XOK s101_3 := by rw [e101_3]; exact ok_x9_clear a81_1 ha81
                exact app_i k101_3
              · refine ite_pred (fun c91_4 => ?_) (fun c91_4 => ?_)
                · refine lt_pred (fun s101_4 e101_4 => ?_)
                  have k101_4 : XOK s101_4 := by rw [e101_4]; exact ok_x10_clear a81_1 ha81
                  exact app_i k101_4
                · refine ite_pred (fun c91_5 => ?_) (fun c91_5 => ?_)
                  · refine lt_pred (fun s101_5 e101_5 => ?_)
                    have k101_5 : XOK s101_5 := by rw [e101_5]; exact ok_x8_clear a81_1 ha81
                    exact app_i k101_5
                  · refine ite_pred (fun c91_6 => ?_) (fun c91_6 => ?_)
                    · refine lt_pred (fun s101_6 e101_6 => ?_)
                      have k101_6 : XOK s101_6 := by rw [e101_6]; exact ok_x6_clear a81_1 ha81
                      exact app_i k101_6
                    · refine ite_pred (fun c91_7 => ?_) (fun c91_7 => ?_)
                      · refine lt_pred (fun s101_7 e101_7 => ?_)
                        have k101_7 : XOK s101_7 := by rw [e101_7]; exact ok_x11_clear a81_1 ha81
                        exact app_i k101_7
                      · exact app_i ha81
      · refine jn_pred (fun z114 => XOK z114) (fun z114 h114 => ?_) ?_
        · refine jn_pred (fun z135 => rg 0 1536 z135) (fun z135 h135 => ?_) ?_
          · refine lt_pred (fun s145 e145 => ?_)
            have k145 : XOK s145 := by rw [e145]; exact xst_0_0 h114 (rg_w h135 (by decide) (by decide))
            refine lt_pred (fun s150 e150 => ?_)
            have k150 : XOK s150 := by rw [e150]; exact xst_0_6 k145 (rg_w rl_0 (by decide) (by decide))
            refine lt_pred (fun s155 e155 => ?_)
            have k155 : XOK s155 := by rw [e155]; exact xst_0_7 k150 (rg_w rl_0 (by decide) (by decide))
            refine lt_pred (fun s160 e160 => ?_)
            have k160 : XOK s160 := by rw [e160]; exact xst_0_30 k155 (rg_w rl_0 (by decide) (by decide))
            exact k160
          · refine ite_pred (fun c135 => ?_) (fun c135 => ?_)
            · exact app_i (rg_w rl_1536 (by decide) (by decide))
            · exact app_i (rg_w rl_0 (by decide) (by decide))
        · refine ite_pred (fun c114 => ?_) (fun c114 => ?_)
          · exact app_i hz81
          · refine lt_pred (fun s125 e125 => ?_)
            have k125 : XOK s125 := by rw [e125]; exact xst_1 hz81 (rg_w rl_8 (by decide) (by decide))
            exact app_i k125
  · refine lt_pred (fun v19_1 e19_1 => ?_)
    have f19_1 : rg 0 255 v19_1 := by rw [e19_1]; exact (rg_or 8 (xr_1 ok _) (rg_bit (rg_w (lo2 := 0) (rg_ne_lo hx1 hsp (by decide +kernel)) (by decide) (Int.le_refl _)) (by decide)) (by decide) (by decide) (by decide))
    refine for_pred (N := 256) (fun i a => XOK a) (fun i31_3 a31_3 hi31_1 ha31_1 => ?_) (fun z31_1 hz31_1 => ?_) 224 32 σ (by omega) ok
    · have fi31_1 : rg 0 255 (nI i31_3) := rg_of_nI (by omega) (by omega)
      refine lt_pred (fun s54_1 e54_1 => ?_)
      have k54_1 : XOK s54_1 := by rw [e54_1]; exact xst_1 ha31_1 (rg_w rl_0 (by decide) (by decide))
      exact app_i k54_1
    · refine lt_pred (fun s68_1 e68_1 => ?_)
      have k68_1 : XOK s68_1 := by rw [e68_1]; exact xst_1 hz31_1 f19_1
      refine for_pred (N := 256) (fun i a => XOK a) (fun i81_3 a81_3 hi81_1 ha81_1 => ?_) (fun z81_1 hz81_1 => ?_) 256 0 s68_1 (by omega) k68_1
      · have fi81_1 : rg 0 255 (nI i81_3) := rg_of_nI (by omega) (by omega)
        refine ite_pred (fun c91_0_1 => ?_) (fun c91_0_1 => ?_)
        · refine lt_pred (fun s101_8 e101_8 => ?_)
          have k101_8 : XOK s101_8 := by rw [e101_8]; exact ok_x4_clear a81_3 ha81_1
          exact app_i k101_8
        · refine ite_pred (fun c91_1_1 => ?_) (fun c91_1_1 => ?_)
          · refine lt_pred (fun s101_9 e101_9 => ?_)
            have k101_9 : XOK s101_9 := by rw [e101_9]; exact ok_x5_clear a81_3 ha81_1
            exact app_i k101_9
          · refine ite_pred (fun c91_2_1 => ?_) (fun c91_2_1 => ?_)
            · refine lt_pred (fun s101_10 e101_10 => ?_)
              have k101_10 : XOK s101_10 := by rw [e101_10]; exact ok_x7_clear a81_3 ha81_1
              exact app_i k101_10
            · refine ite_pred (fun c91_3_1 => ?_) (fun c91_3_1 => ?_)
              · refine lt_pred (fun s101_11 e101_11 => ?_)
                have k101_11 : XOK s101_11 := by rw [e101_11]; exact ok_x9_clear a81_3 ha81_1
                exact app_i k101_11
              · refine ite_pred (fun c91_4_1 => ?_) (fun c91_4_1 => ?_)
                · refine lt_pred (fun s101_12 e101_12 => ?_)
                  have k101_12 : XOK s101_12 := by rw [e101_12]; exact ok_x10_clear a81_3 ha81_1
                  exact app_i k101_12
                · refine ite_pred (fun c91_5_1 => ?_) (fun c91_5_1 => ?_)
                  · refine lt_pred (fun s101_13 e101_13 => ?_)
                    have k101_13 : XOK s101_13 := by rw [e101_13]; exact ok_x8_clear a81_3 ha81_1
                    exact app_i k101_13
                  · refine ite_pred (fun c91_6_1 => ?_) (fun c91_6_1 => ?_)
                    · refine lt_pred (fun s101_14 e101_14 => ?_)
                      have k101_14 : XOK s101_14 := by rw [e101_14]; exact ok_x6_clear a81_3 ha81_1
                      exact app_i k101_14
                    · refine ite_pred (fun c91_7_1 => ?_) (fun c91_7_1 => ?_)
                      · refine lt_pred (fun s101_15 e101_15 => ?_)
                        have k101_15 : XOK s101_15 := by rw [e101_15]; exact ok_x11_clear a81_3 ha81_1
                        exact app_i k101_15
                      · exact app_i ha81_1
      · refine jn_pred (fun z114_1 => XOK z114_1) (fun z114_1 h114_1 => ?_) ?_
        · refine jn_pred (fun z135_1 => rg 0 1536 z135_1) (fun z135_1 h135_1 => ?_) ?_
          · refine lt_pred (fun s145_1 e145_1 => ?_)
            have k145_1 : XOK s145_1 := by rw [e145_1]; exact xst_0_0 h114_1 (rg_w h135_1 (by decide) (by decide))
            refine lt_pred (fun s150_1 e150_1 => ?_)
            have k150_1 : XOK s150_1 := by rw [e150_1]; exact xst_0_6 k145_1 (rg_w rl_0 (by decide) (by decide))
            refine lt_pred (fun s155_1 e155_1 => ?_)
            have k155_1 : XOK s155_1 := by rw [e155_1]; exact xst_0_7 k150_1 (rg_w rl_0 (by decide) (by decide))
            refine lt_pred (fun s160_1 e160_1 => ?_)
            have k160_1 : XOK s160_1 := by rw [e160_1]; exact xst_0_30 k155_1 (rg_w rl_0 (by decide) (by decide))
            exact k160_1
          · refine ite_pred (fun c135_1 => ?_) (fun c135_1 => ?_)
            · exact app_i (rg_w rl_1536 (by decide) (by decide))
            · exact app_i (rg_w rl_0 (by decide) (by decide))
        · refine ite_pred (fun c114_1 => ?_) (fun c114_1 => ?_)
          · exact app_i hz81_1
          · refine lt_pred (fun s125_1 e125_1 => ?_)
            have k125_1 : XOK s125_1 := by rw [e125_1]; exact xst_1 hz81_1 (rg_w rl_8 (by decide) (by decide))
            exact app_i k125_1

set_option maxHeartbeats 4000000 in
theorem hm_x2_reset (σ : Sg) (x1 : Int32) {B m : Int} (hk : HBm B m σ) (hm : m ≤ 1500270000) : HBm B m (x2_reset σ x1) := by
  have hm0 : 0 ≤ m := hk.nn
  show HBm B m (x2_reset σ x1)
  unfold x2_reset
  refine ite_pred (fun hsp => ?_) (fun hsp => ?_)
  · refine lt_pred (fun v19 e19 => ?_)
    refine for_pred (N := 1280) (fun i a => HBm B m a) (fun i31_1 a31_1 hi31 ha31 => ?_) (fun z31 hz31 => ?_) 1280 0 σ (by omega) (HBm.w hk (by omega) (by omega))
    · refine lt_pred (fun s54 e54 => ?_)
      have q54 : HBm B m s54 := by rw [e54]; exact HBm.same ha31 rfl rfl rfl
      exact app_i (HBm.w q54 (by omega) (by omega))
    · refine lt_pred (fun s68 e68 => ?_)
      have q68 : HBm B m s68 := by rw [e68]; exact HBm.same hz31 rfl rfl rfl
      refine for_pred (N := 256) (fun i a => HBm B m a) (fun i81_1 a81_1 hi81 ha81 => ?_) (fun z81 hz81 => ?_) 256 0 s68 (by omega) (HBm.w q68 (by omega) (by omega))
      · refine ite_pred (fun c91_0 => ?_) (fun c91_0 => ?_)
        · refine lt_pred (fun s101 e101 => ?_)
          have q101 : HBm B m s101 := by rw [e101]; exact HBm.w (HBm.kp ha81 (kp_x4_clear a81_1 (ka := a81_1 0 20) (kb := a81_1 0 13) ⟨rfl, rfl, ha81.2⟩ (by omega))) (by omega) (by omega)
          exact app_i (HBm.w q101 (by omega) (by omega))
        · refine ite_pred (fun c91_1 => ?_) (fun c91_1 => ?_)
          · refine lt_pred (fun s101_1 e101_1 => ?_)
            have q101_1 : HBm B m s101_1 := by rw [e101_1]; exact HBm.w (HBm.kp ha81 (kp_x5_clear a81_1 (ka := a81_1 0 20) (kb := a81_1 0 13) ⟨rfl, rfl, ha81.2⟩ (by omega))) (by omega) (by omega)
            exact app_i (HBm.w q101_1 (by omega) (by omega))
          · refine ite_pred (fun c91_2 => ?_) (fun c91_2 => ?_)
            · refine lt_pred (fun s101_2 e101_2 => ?_)
              have q101_2 : HBm B m s101_2 := by rw [e101_2]; exact HBm.w (HBm.kp ha81 (kp_x7_clear a81_1 (ka := a81_1 0 20) (kb := a81_1 0 13) ⟨rfl, rfl, ha81.2⟩ (by omega))) (by omega) (by omega)
              exact app_i (HBm.w q101_2 (by omega) (by omega))
            · refine ite_pred (fun c91_3 => ?_) (fun c91_3 => ?_)
              · refine lt_pred (fun s101_3 e101_3 => ?_)
                have q101_3 : HBm B m s101_3 := by rw [e101_3]; exact HBm.w (HBm.kp ha81 (kp_x9_clear a81_1 (ka := a81_1 0 20) (kb := a81_1 0 13) ⟨rfl, rfl, ha81.2⟩ (by omega))) (by omega) (by omega)
                exact app_i (HBm.w q101_3 (by omega) (by omega))
              · refine ite_pred (fun c91_4 => ?_) (fun c91_4 => ?_)
                · refine lt_pred (fun s101_4 e101_4 => ?_)
                  have q101_4 : HBm B m s101_4 := by rw [e101_4]; exact HBm.w (HBm.kp ha81 (kp_x10_clear a81_1 (ka := a81_1 0 20) (kb := a81_1 0 13) ⟨rfl, rfl, ha81.2⟩ (by omega))) (by omega) (by omega)
                  exact app_i (HBm.w q101_4 (by omega) (by omega))
                · refine ite_pred (fun c91_5 => ?_) (fun c91_5 => ?_)
                  · refine lt_pred (fun s101_5 e101_5 => ?_)
                    have q101_5 : HBm B m s101_5 := by rw [e101_5]; exact HBm.w (HBm.kp ha81 (kp_x8_clear a81_1 (ka := a81_1 0 20) (kb := a81_1 0 13) ⟨rfl, rfl, ha81.2⟩ (by omega))) (by omega) (by omega)
                    exact app_i (HBm.w q101_5 (by omega) (by omega))
                  · refine ite_pred (fun c91_6 => ?_) (fun c91_6 => ?_)
                    · refine lt_pred (fun s101_6 e101_6 => ?_)
                      have q101_6 : HBm B m s101_6 := by rw [e101_6]; exact HBm.w (hm_x6_clear a81_1 ha81 (by omega) ) (by omega) (by omega)
                      exact app_i (HBm.w q101_6 (by omega) (by omega))
                    · refine ite_pred (fun c91_7 => ?_) (fun c91_7 => ?_)
                      · refine lt_pred (fun s101_7 e101_7 => ?_)
                        have q101_7 : HBm B m s101_7 := by rw [e101_7]; exact HBm.w (HBm.kp ha81 (kp_x11_clear a81_1 (ka := a81_1 0 20) (kb := a81_1 0 13) ⟨rfl, rfl, ha81.2⟩ (by omega))) (by omega) (by omega)
                        exact app_i (HBm.w q101_7 (by omega) (by omega))
                      · exact app_i (HBm.w ha81 (by omega) (by omega))
      · refine jn_pred (fun z114 => HBm B m z114) (fun z114 h114 => ?_) ?_
        · refine jn_pred (fun z135 => True) (fun z135 h135 => ?_) ?_
          · refine lt_pred (fun s145 e145 => ?_)
            have q145 : HBm B m s145 := by rw [e145]; exact HBm.same h114 rfl rfl rfl
            refine lt_pred (fun s150 e150 => ?_)
            have q150 : HBm B m s150 := by rw [e150]; exact HBm.same q145 rfl rfl rfl
            refine lt_pred (fun s155 e155 => ?_)
            have q155 : HBm B m s155 := by rw [e155]; exact HBm.same q150 rfl rfl rfl
            refine lt_pred (fun s160 e160 => ?_)
            have q160 : HBm B m s160 := by rw [e160]; exact HBm.same q155 rfl rfl rfl
            exact HBm.w q160 (by omega) (by omega)
          · refine ite_pred (fun c135 => ?_) (fun c135 => ?_)
            · exact app_i trivial
            · exact app_i trivial
        · refine ite_pred (fun c114 => ?_) (fun c114 => ?_)
          · exact app_i (HBm.w hz81 (by omega) (by omega))
          · refine lt_pred (fun s125 e125 => ?_)
            have q125 : HBm B m s125 := by rw [e125]; exact HBm.same hz81 rfl rfl rfl
            exact app_i (HBm.w q125 (by omega) (by omega))
  · refine lt_pred (fun v19_1 e19_1 => ?_)
    refine for_pred (N := 256) (fun i a => HBm B m a) (fun i31_3 a31_3 hi31_1 ha31_1 => ?_) (fun z31_1 hz31_1 => ?_) 224 32 σ (by omega) (HBm.w hk (by omega) (by omega))
    · refine lt_pred (fun s54_1 e54_1 => ?_)
      have q54_1 : HBm B m s54_1 := by rw [e54_1]; exact HBm.same ha31_1 rfl rfl rfl
      exact app_i (HBm.w q54_1 (by omega) (by omega))
    · refine lt_pred (fun s68_1 e68_1 => ?_)
      have q68_1 : HBm B m s68_1 := by rw [e68_1]; exact HBm.same hz31_1 rfl rfl rfl
      refine for_pred (N := 256) (fun i a => HBm B m a) (fun i81_3 a81_3 hi81_1 ha81_1 => ?_) (fun z81_1 hz81_1 => ?_) 256 0 s68_1 (by omega) (HBm.w q68_1 (by omega) (by omega))
      · refine ite_pred (fun c91_0_1 => ?_) (fun c91_0_1 => ?_)
        · refine lt_pred (fun s101_8 e101_8 => ?_)
          have q101_8 : HBm B m s101_8 := by rw [e101_8]; exact HBm.w (HBm.kp ha81_1 (kp_x4_clear a81_3 (ka := a81_3 0 20) (kb := a81_3 0 13) ⟨rfl, rfl, ha81_1.2⟩ (by omega))) (by omega) (by omega)
          exact app_i (HBm.w q101_8 (by omega) (by omega))
        · refine ite_pred (fun c91_1_1 => ?_) (fun c91_1_1 => ?_)
          · refine lt_pred (fun s101_9 e101_9 => ?_)
            have q101_9 : HBm B m s101_9 := by rw [e101_9]; exact HBm.w (HBm.kp ha81_1 (kp_x5_clear a81_3 (ka := a81_3 0 20) (kb := a81_3 0 13) ⟨rfl, rfl, ha81_1.2⟩ (by omega))) (by omega) (by omega)
            exact app_i (HBm.w q101_9 (by omega) (by omega))
          · refine ite_pred (fun c91_2_1 => ?_) (fun c91_2_1 => ?_)
            · refine lt_pred (fun s101_10 e101_10 => ?_)
              have q101_10 : HBm B m s101_10 := by rw [e101_10]; exact HBm.w (HBm.kp ha81_1 (kp_x7_clear a81_3 (ka := a81_3 0 20) (kb := a81_3 0 13) ⟨rfl, rfl, ha81_1.2⟩ (by omega))) (by omega) (by omega)
              exact app_i (HBm.w q101_10 (by omega) (by omega))
            · refine ite_pred (fun c91_3_1 => ?_) (fun c91_3_1 => ?_)
              · refine lt_pred (fun s101_11 e101_11 => ?_)
                have q101_11 : HBm B m s101_11 := by rw [e101_11]; exact HBm.w (HBm.kp ha81_1 (kp_x9_clear a81_3 (ka := a81_3 0 20) (kb := a81_3 0 13) ⟨rfl, rfl, ha81_1.2⟩ (by omega))) (by omega) (by omega)
                exact app_i (HBm.w q101_11 (by omega) (by omega))
              · refine ite_pred (fun c91_4_1 => ?_) (fun c91_4_1 => ?_)
                · refine lt_pred (fun s101_12 e101_12 => ?_)
                  have q101_12 : HBm B m s101_12 := by rw [e101_12]; exact HBm.w (HBm.kp ha81_1 (kp_x10_clear a81_3 (ka := a81_3 0 20) (kb := a81_3 0 13) ⟨rfl, rfl, ha81_1.2⟩ (by omega))) (by omega) (by omega)
                  exact app_i (HBm.w q101_12 (by omega) (by omega))
                · refine ite_pred (fun c91_5_1 => ?_) (fun c91_5_1 => ?_)
                  · refine lt_pred (fun s101_13 e101_13 => ?_)
                    have q101_13 : HBm B m s101_13 := by rw [e101_13]; exact HBm.w (HBm.kp ha81_1 (kp_x8_clear a81_3 (ka := a81_3 0 20) (kb := a81_3 0 13) ⟨rfl, rfl, ha81_1.2⟩ (by omega))) (by omega) (by omega)
                    exact app_i (HBm.w q101_13 (by omega) (by omega))
                  · refine ite_pred (fun c91_6_1 => ?_) (fun c91_6_1 => ?_)
                    · refine lt_pred (fun s101_14 e101_14 => ?_)
                      have q101_14 : HBm B m s101_14 := by rw [e101_14]; exact HBm.w (hm_x6_clear a81_3 ha81_1 (by omega) ) (by omega) (by omega)
                      exact app_i (HBm.w q101_14 (by omega) (by omega))
                    · refine ite_pred (fun c91_7_1 => ?_) (fun c91_7_1 => ?_)
                      · refine lt_pred (fun s101_15 e101_15 => ?_)
                        have q101_15 : HBm B m s101_15 := by rw [e101_15]; exact HBm.w (HBm.kp ha81_1 (kp_x11_clear a81_3 (ka := a81_3 0 20) (kb := a81_3 0 13) ⟨rfl, rfl, ha81_1.2⟩ (by omega))) (by omega) (by omega)
                        exact app_i (HBm.w q101_15 (by omega) (by omega))
                      · exact app_i (HBm.w ha81_1 (by omega) (by omega))
      · refine jn_pred (fun z114_1 => HBm B m z114_1) (fun z114_1 h114_1 => ?_) ?_
        · refine jn_pred (fun z135_1 => True) (fun z135_1 h135_1 => ?_) ?_
          · refine lt_pred (fun s145_1 e145_1 => ?_)
            have q145_1 : HBm B m s145_1 := by rw [e145_1]; exact HBm.same h114_1 rfl rfl rfl
            refine lt_pred (fun s150_1 e150_1 => ?_)
            have q150_1 : HBm B m s150_1 := by rw [e150_1]; exact HBm.same q145_1 rfl rfl rfl
            refine lt_pred (fun s155_1 e155_1 => ?_)
            have q155_1 : HBm B m s155_1 := by rw [e155_1]; exact HBm.same q150_1 rfl rfl rfl
            refine lt_pred (fun s160_1 e160_1 => ?_)
            have q160_1 : HBm B m s160_1 := by rw [e160_1]; exact HBm.same q155_1 rfl rfl rfl
            exact HBm.w q160_1 (by omega) (by omega)
          · refine ite_pred (fun c135_1 => ?_) (fun c135_1 => ?_)
            · exact app_i trivial
            · exact app_i trivial
        · refine ite_pred (fun c114_1 => ?_) (fun c114_1 => ?_)
          · exact app_i (HBm.w hz81_1 (by omega) (by omega))
          · refine lt_pred (fun s125_1 e125_1 => ?_)
            have q125_1 : HBm B m s125_1 := by rw [e125_1]; exact HBm.same hz81_1 rfl rfl rfl
            exact app_i (HBm.w q125_1 (by omega) (by omega))

def x2_entry (σ : Sg) (x1 : Int32) : Sg :=
  lt (sst σ 0 6 0) fun s2 =>
  lt (x2_pushPlace s2) fun s6 =>
  lt (x2_set s6 128 0) fun s14 =>
  lt ((
    if ((s14 1 85) &&& 2) = 0 then
      0
    else
      1536) : Int32) fun z30 =>
  lt (x2_go s14 ((2 * x1) + z30)) fun s41 =>
  lt ((
    if x1 = 1 then
      lt ((
        if ((s41 1 96) &&& 8) = 0 then
          127
        else
          63) : Int32) fun z67 =>
      lt (sst s41 1 96 ((s41 1 96) &&& z67)) fun s78 =>
      s78
    else
      s41) : Sg) fun z46 =>
  lt ((
    if x1 = 2 then
      lt (sst z46 1 53 ((z46 1 53) &&& (-3))) fun s95 =>
      s95
    else
      z46) : Sg) fun z81 =>
  lt ((
    if x1 = 3 then
      lt (sst z81 1 53 ((z81 1 53) &&& (-2))) fun s112 =>
      s112
    else
      z81) : Sg) fun z98 =>
  lt ((
    if x1 = 6 then
      lt (sst z98 0 32 0) fun s124 =>
      s124
    else
      z98) : Sg) fun z116 =>
  lt (sst z116 0 4 ((z116 0 4) + 1)) fun s134 =>
  s134
set_option maxHeartbeats 4000000 in
theorem ok_x2_entry (σ : Sg) (x1 : Int32) (ok : XOK σ) (hx1 : rg 1 8 x1) : XOK (x2_entry σ x1) := by
  unfold x2_entry
  refine lt_pred (fun s2 e2 => ?_)
  have k2 : XOK s2 := by rw [e2]; exact xst_0_6 ok (rg_w rl_0 (by decide) (by decide))
  refine lt_pred (fun s6 e6 => ?_)
  have k6 : XOK s6 := by rw [e6]; exact ok_x2_pushPlace s2 k2
  refine lt_pred (fun s14 e14 => ?_)
  have k14 : XOK s14 := by rw [e14]; exact ok_x2_set s6 128 0 k6 (rg_w rl_128 (by decide) (by decide)) (rg_w rl_0 (by decide) (by decide))
  refine jn_pred (fun z30 => rg 0 1536 z30) (fun z30 h30 => ?_) ?_
  · refine lt_pred (fun s41 e41 => ?_)
    have k41 : XOK s41 := by rw [e41]; exact ok_x2_go s14 ((2 * x1) + z30) k14
    refine jn_pred (fun z46 => XOK z46) (fun z46 h46 => ?_) ?_
    · refine jn_pred (fun z81 => XOK z81) (fun z81 h81 => ?_) ?_
      · refine jn_pred (fun z98 => XOK z98) (fun z98 h98 => ?_) ?_
        · refine jn_pred (fun z116 => XOK z116) (fun z116 h116 => ?_) ?_
          · refine lt_pred (fun s134 e134 => ?_)
            have k134 : XOK s134 := by rw [e134]; exact xst_f0_4 h116
            exact k134
          · refine ite_pred (fun c116 => ?_) (fun c116 => ?_)
            · refine lt_pred (fun s124 e124 => ?_)
              have k124 : XOK s124 := by rw [e124]; exact xst_0_32 h98 (rg_w rl_0 (by decide) (by decide))
              exact app_i k124
            · exact app_i h98
        · refine ite_pred (fun c98 => ?_) (fun c98 => ?_)
          · refine lt_pred (fun s112 e112 => ?_)
            have k112 : XOK s112 := by rw [e112]; exact xst_1 h81 (rg_and_l (xr_1 h81 _))
            exact app_i k112
          · exact app_i h81
      · refine ite_pred (fun c81 => ?_) (fun c81 => ?_)
        · refine lt_pred (fun s95 e95 => ?_)
          have k95 : XOK s95 := by rw [e95]; exact xst_1 h46 (rg_and_l (xr_1 h46 _))
          exact app_i k95
        · exact app_i h46
    · refine ite_pred (fun c46 => ?_) (fun c46 => ?_)
      · refine jn_pred (fun z67 => rg 63 127 z67) (fun z67 h67 => ?_) ?_
        · refine lt_pred (fun s78 e78 => ?_)
          have k78 : XOK s78 := by rw [e78]; exact xst_1 k41 (rg_w (rg_and_r (rg_w (lo2 := 0) h67 (by decide) (Int.le_refl _))) (by decide) (by decide))
          exact app_i k78
        · refine ite_pred (fun c67 => ?_) (fun c67 => ?_)
          · exact app_i (rg_w rl_127 (by decide) (by decide))
          · exact app_i (rg_w rl_63 (by decide) (by decide))
      · exact app_i k41
  · refine ite_pred (fun c30 => ?_) (fun c30 => ?_)
    · exact app_i (rg_w rl_0 (by decide) (by decide))
    · exact app_i (rg_w rl_1536 (by decide) (by decide))

set_option maxHeartbeats 4000000 in
theorem kp_x2_entry (σ : Sg) (x1 : Int32) {ka kb : Int32} {m : Int} (hk : Kp ka kb m σ) (hm : m ≤ 1500250000) : Kp ka kb (m + 8) (x2_entry σ x1) := by
  have hm0 : 0 ≤ m := hk.nn
  show Kp ka kb (m + 8) (x2_entry σ x1)
  unfold x2_entry
  refine lt_pred (fun s2 e2 => ?_)
  have q2 : Kp ka kb m s2 := by rw [e2]; exact Kp.same hk rfl rfl rfl
  refine lt_pred (fun s6 e6 => ?_)
  have q6 : Kp ka kb (m + 8) s6 := by rw [e6]; exact Kp.w (kp_x2_pushPlace s2 q2 (by omega)) (by omega)
  refine lt_pred (fun s14 e14 => ?_)
  have q14 : Kp ka kb (m + 8) s14 := by rw [e14]; exact Kp.w (kp_x2_set s6 128 0 q6 (by omega)) (by omega)
  refine jn_pred (fun z30 => True) (fun z30 h30 => ?_) ?_
  · refine lt_pred (fun s41 e41 => ?_)
    have q41 : Kp ka kb (m + 8) s41 := by rw [e41]; exact Kp.w (kp_x2_go s14 ((2 * x1) + z30) q14 (by omega)) (by omega)
    refine jn_pred (fun z46 => Kp ka kb (m + 8) z46) (fun z46 h46 => ?_) ?_
    · refine jn_pred (fun z81 => Kp ka kb (m + 8) z81) (fun z81 h81 => ?_) ?_
      · refine jn_pred (fun z98 => Kp ka kb (m + 8) z98) (fun z98 h98 => ?_) ?_
        · refine jn_pred (fun z116 => Kp ka kb (m + 8) z116) (fun z116 h116 => ?_) ?_
          · refine lt_pred (fun s134 e134 => ?_)
            have q134 : Kp ka kb (m + 8) s134 := by rw [e134]; exact Kp.same h116 rfl rfl rfl
            exact Kp.w q134 (by omega)
          · refine ite_pred (fun c116 => ?_) (fun c116 => ?_)
            · refine lt_pred (fun s124 e124 => ?_)
              have q124 : Kp ka kb (m + 8) s124 := by rw [e124]; exact Kp.same h98 rfl rfl rfl
              exact app_i (Kp.w q124 (by omega))
            · exact app_i (Kp.w h98 (by omega))
        · refine ite_pred (fun c98 => ?_) (fun c98 => ?_)
          · refine lt_pred (fun s112 e112 => ?_)
            have q112 : Kp ka kb (m + 8) s112 := by rw [e112]; exact Kp.same h81 rfl rfl rfl
            exact app_i (Kp.w q112 (by omega))
          · exact app_i (Kp.w h81 (by omega))
      · refine ite_pred (fun c81 => ?_) (fun c81 => ?_)
        · refine lt_pred (fun s95 e95 => ?_)
          have q95 : Kp ka kb (m + 8) s95 := by rw [e95]; exact Kp.same h46 rfl rfl rfl
          exact app_i (Kp.w q95 (by omega))
        · exact app_i (Kp.w h46 (by omega))
    · refine ite_pred (fun c46 => ?_) (fun c46 => ?_)
      · refine jn_pred (fun z67 => True) (fun z67 h67 => ?_) ?_
        · refine lt_pred (fun s78 e78 => ?_)
          have q78 : Kp ka kb (m + 8) s78 := by rw [e78]; exact Kp.same q41 rfl rfl rfl
          exact app_i (Kp.w q78 (by omega))
        · refine ite_pred (fun c67 => ?_) (fun c67 => ?_)
          · exact app_i trivial
          · exact app_i trivial
      · exact app_i (Kp.w q41 (by omega))
  · refine ite_pred (fun c30 => ?_) (fun c30 => ?_)
    · exact app_i trivial
    · exact app_i trivial

