/-! CORE: pure functions and their invariant -/
set_option maxRecDepth 100000
def x2_pair (σ : Sg) (x1 : Int32) : Int32 :=
  (((σ 1 ((x1 + 1)).toNatClampNeg) <<< (8 : Int32)) ||| (σ 1 (x1).toNatClampNeg))
set_option maxHeartbeats 4000000 in
theorem ok_x2_pair (σ : Sg) (x1 : Int32) (ok : XOK σ) (hx1 : rg 0 1278 x1) : rg 0 65535 (x2_pair σ x1) := by
  unfold x2_pair
  exact (rg_or 16 (rg_shl 8 (by decide +kernel) (xr_1 ok _) (by decide)) (xr_1 ok _) (by decide) (by decide) (by decide))

def x2_toPair (σ : Sg) (x1 : Int32) (x2 : Int32) : Sg :=
  lt (sst σ 1 (x1).toNatClampNeg (x2 &&& 255)) fun s10 =>
  lt (sst s10 1 ((x1 + 1)).toNatClampNeg ((x2 >>> (8 : Int32)) &&& 255)) fun s26 =>
  s26
set_option maxHeartbeats 4000000 in
theorem ok_x2_toPair (σ : Sg) (x1 : Int32) (x2 : Int32) (ok : XOK σ) (hx1 : rg 0 1278 x1) : XOK (x2_toPair σ x1 x2) := by
  unfold x2_toPair
  refine lt_pred (fun s10 e10 => ?_)
  have k10 : XOK s10 := by rw [e10]; exact xst_1 ok (rg_and_r (rg_w (lo2 := 0) rl_255 (by decide) (Int.le_refl _)))
  refine lt_pred (fun s26 e26 => ?_)
  have k26 : XOK s26 := by rw [e26]; exact xst_1 k10 (rg_and_r (rg_w (lo2 := 0) rl_255 (by decide) (Int.le_refl _)))
  exact k26

set_option maxHeartbeats 4000000 in
theorem kp_x2_toPair (σ : Sg) (x1 : Int32) (x2 : Int32) {ka kb : Int32} {m : Int} (hk : Kp ka kb m σ) (hm : m ≤ 1500290000) : Kp ka kb m (x2_toPair σ x1 x2) := by
  have hm0 : 0 ≤ m := hk.nn
  show Kp ka kb m (x2_toPair σ x1 x2)
  unfold x2_toPair
  refine lt_pred (fun s10 e10 => ?_)
  have q10 : Kp ka kb m s10 := by rw [e10]; exact Kp.same hk rfl rfl rfl
  refine lt_pred (fun s26 e26 => ?_)
  have q26 : Kp ka kb m s26 := by rw [e26]; exact Kp.same q10 rfl rfl rfl
  exact Kp.w q26 (by omega)

def x2_stack (σ : Sg) : Int32 :=
  (((σ 1 94) <<< (8 : Int32)) ||| (σ 1 93))
set_option maxHeartbeats 4000000 in
theorem ok_x2_stack (σ : Sg) (ok : XOK σ) : rg 0 65535 (x2_stack σ) := by
  unfold x2_stack
  exact (rg_or 16 (rg_shl 8 (by decide +kernel) (xr_1 ok _) (by decide)) (xr_1 ok _) (by decide) (by decide) (by decide))

def x2_toStack (σ : Sg) (x1 : Int32) : Sg :=
  lt (sst σ 1 93 (x1 &&& 255)) fun s11 =>
  lt (sst s11 1 94 ((x1 >>> (8 : Int32)) &&& 255)) fun s26 =>
  s26
set_option maxHeartbeats 4000000 in
theorem ok_x2_toStack (σ : Sg) (x1 : Int32) (ok : XOK σ) : XOK (x2_toStack σ x1) := by
  unfold x2_toStack
  refine lt_pred (fun s11 e11 => ?_)
  have k11 : XOK s11 := by rw [e11]; exact xst_1 ok (rg_and_r (rg_w (lo2 := 0) rl_255 (by decide) (Int.le_refl _)))
  refine lt_pred (fun s26 e26 => ?_)
  have k26 : XOK s26 := by rw [e26]; exact xst_1 k11 (rg_and_r (rg_w (lo2 := 0) rl_255 (by decide) (Int.le_refl _)))
  exact k26

set_option maxHeartbeats 4000000 in
theorem kp_x2_toStack (σ : Sg) (x1 : Int32) {ka kb : Int32} {m : Int} (hk : Kp ka kb m σ) (hm : m ≤ 1500290000) : Kp ka kb m (x2_toStack σ x1) := by
  have hm0 : 0 ≤ m := hk.nn
  show Kp ka kb m (x2_toStack σ x1)
  unfold x2_toStack
  refine lt_pred (fun s11 e11 => ?_)
  have q11 : Kp ka kb m s11 := by rw [e11]; exact Kp.same hk rfl rfl rfl
  refine lt_pred (fun s26 e26 => ?_)
  have q26 : Kp ka kb m s26 := by rw [e26]; exact Kp.same q11 rfl rfl rfl
  exact Kp.w q26 (by omega)

def x2_load (σ : Sg) (x1 : Int32) : Int32 × Sg :=
  if (¬ (x1 < 32)) ∧ (x1 < 256) then
    if x1 = 35 then
      if x1 = 193 then
        ((σ 1 (x1).toNatClampNeg), σ)
      else
        ((x4_load σ x1), σ)
    else
      if x1 = 53 then
        if x1 = 193 then
          ((σ 1 (x1).toNatClampNeg), σ)
        else
          ((x3_load σ x1), σ)
      else
        if ((x1 = 63) ∨ (x1 = 64)) ∨ (x1 = 65) then
          if x1 = 193 then
            ((σ 1 (x1).toNatClampNeg), σ)
          else
            ((x7_load σ x1), σ)
        else
          if (x1 = 84) ∨ (x1 = 85) then
            if x1 = 193 then
              ((σ 1 (x1).toNatClampNeg), σ)
            else
              ((x3_load σ x1), σ)
          else
            if x1 = 87 then
              if x1 = 193 then
                ((σ 1 (x1).toNatClampNeg), σ)
              else
                ((x3_load σ x1), σ)
            else
              if x1 = 96 then
                if x1 = 193 then
                  ((σ 1 (x1).toNatClampNeg), σ)
                else
                  ((x3_load σ x1), σ)
              else
                if ((x1 = 192) ∨ (x1 = 193)) ∨ (x1 = 198) then
                  if x1 = 193 then
                    ((σ 1 (x1).toNatClampNeg), σ)
                  else
                    lt (x6_load σ x1) fun z62 =>
                    (z62.1, z62.2)
                else
                  if (((((((((((((((x1 = 36) ∨ (x1 = 37)) ∨ (x1 = 62)) ∨ (x1 = 68)) ∨ (x1 = 69)) ∨ (x1 = 70)) ∨ (x1 = 71)) ∨ (x1 = 74)) ∨ (x1 = 75)) ∨ (x1 = 93)) ∨ (x1 = 94)) ∨ (x1 = 95)) ∨ (x1 = 110)) ∨ (x1 = 194)) ∨ (x1 = 196)) ∨ (x1 = 197) then
                    ((x3_load σ x1), σ)
                  else
                    (0, σ)
  else
    lt ((
      if x1 < 1280 then
        (σ 1 (x1).toNatClampNeg)
      else
        0) : Int32) fun z17 =>
    (z17, σ)
set_option maxHeartbeats 4000000 in
theorem ok_x2_load (σ : Sg) (x1 : Int32) (ok : XOK σ) (hx1 : rg 0 65535 x1) : (Pri XOK 0 255) (x2_load σ x1) := by
  unfold x2_load
  refine ite_pred (fun c3 => ?_) (fun c3 => ?_)
  · refine ite_pred (fun c36_0 => ?_) (fun c36_0 => ?_)
    · refine ite_pred (fun c42 => ?_) (fun c42 => ?_)
      · exact ⟨ok, (xr_1 ok _)⟩
      · exact ⟨ok, (ok_x4_load σ x1 ok)⟩
    · refine ite_pred (fun c36_1 => ?_) (fun c36_1 => ?_)
      · refine ite_pred (fun c42_1 => ?_) (fun c42_1 => ?_)
        · exact ⟨ok, (xr_1 ok _)⟩
        · exact ⟨ok, (ok_x3_load σ x1 ok (rg_w (rg_eq c36_1 rl_53) (by decide) (by decide)))⟩
      · refine ite_pred (fun c36_2 => ?_) (fun c36_2 => ?_)
        · refine ite_pred (fun c42_2 => ?_) (fun c42_2 => ?_)
          · exact ⟨ok, (xr_1 ok _)⟩
          · exact ⟨ok, (ok_x7_load σ x1 ok (rg_w (Or.elim c36_2 (fun w13 => (rg_w (lo2 := 63) (hi2 := 65) (Or.elim w13 (fun w14 => (rg_w (lo2 := 63) (hi2 := 64) (rg_eq w14 rl_63) (by decide) (by decide))) (fun w14 => (rg_w (lo2 := 63) (hi2 := 64) (rg_eq w14 rl_64) (by decide) (by decide)))) (by decide) (by decide))) (fun w13 => (rg_w (lo2 := 63) (hi2 := 65) (rg_eq w13 rl_65) (by decide) (by decide)))) (by decide) (by decide)))⟩
        · refine ite_pred (fun c36_3 => ?_) (fun c36_3 => ?_)
          · refine ite_pred (fun c42_3 => ?_) (fun c42_3 => ?_)
            · exact ⟨ok, (xr_1 ok _)⟩
            · exact ⟨ok, (ok_x3_load σ x1 ok (rg_w (Or.elim c36_3 (fun w25 => (rg_w (lo2 := 84) (hi2 := 85) (rg_eq w25 rl_84) (by decide) (by decide))) (fun w25 => (rg_w (lo2 := 84) (hi2 := 85) (rg_eq w25 rl_85) (by decide) (by decide)))) (by decide) (by decide)))⟩
          · refine ite_pred (fun c36_4 => ?_) (fun c36_4 => ?_)
            · refine ite_pred (fun c42_4 => ?_) (fun c42_4 => ?_)
              · exact ⟨ok, (xr_1 ok _)⟩
              · exact ⟨ok, (ok_x3_load σ x1 ok (rg_w (rg_eq c36_4 rl_87) (by decide) (by decide)))⟩
            · refine ite_pred (fun c36_5 => ?_) (fun c36_5 => ?_)
              · refine ite_pred (fun c42_5 => ?_) (fun c42_5 => ?_)
                · exact ⟨ok, (xr_1 ok _)⟩
                · exact ⟨ok, (ok_x3_load σ x1 ok (rg_w (rg_eq c36_5 rl_96) (by decide) (by decide)))⟩
              · refine ite_pred (fun c36_6 => ?_) (fun c36_6 => ?_)
                · refine ite_pred (fun c42_6 => ?_) (fun c42_6 => ?_)
                  · exact ⟨ok, (xr_1 ok _)⟩
                  · refine lt_pred (fun z62 e62 => ?_)
                    have k62 : XOK z62.2 ∧ rg 0 255 z62.1 := by rw [e62]; exact ok_x6_load σ x1 ok
                    exact ⟨k62.1, k62.2⟩
                · refine ite_pred (fun c36_7 => ?_) (fun c36_7 => ?_)
                  · exact ⟨ok, (ok_x3_load σ x1 ok (rg_w (Or.elim c36_7 (fun w53 => (rg_w (lo2 := 36) (hi2 := 197) (Or.elim w53 (fun w54 => (rg_w (lo2 := 36) (hi2 := 196) (Or.elim w54 (fun w55 => (rg_w (lo2 := 36) (hi2 := 194) (Or.elim w55 (fun w56 => (rg_w (lo2 := 36) (hi2 := 110) (Or.elim w56 (fun w57 => (rg_w (lo2 := 36) (hi2 := 95) (Or.elim w57 (fun w58 => (rg_w (lo2 := 36) (hi2 := 94) (Or.elim w58 (fun w59 => (rg_w (lo2 := 36) (hi2 := 93) (Or.elim w59 (fun w60 => (rg_w (lo2 := 36) (hi2 := 75) (Or.elim w60 (fun w61 => (rg_w (lo2 := 36) (hi2 := 74) (Or.elim w61 (fun w62 => (rg_w (lo2 := 36) (hi2 := 71) (Or.elim w62 (fun w63 => (rg_w (lo2 := 36) (hi2 := 70) (Or.elim w63 (fun w64 => (rg_w (lo2 := 36) (hi2 := 69) (Or.elim w64 (fun w65 => (rg_w (lo2 := 36) (hi2 := 68) (Or.elim w65 (fun w66 => (rg_w (lo2 := 36) (hi2 := 62) (Or.elim w66 (fun w67 => (rg_w (lo2 := 36) (hi2 := 37) (rg_eq w67 rl_36) (by decide) (by decide))) (fun w67 => (rg_w (lo2 := 36) (hi2 := 37) (rg_eq w67 rl_37) (by decide) (by decide)))) (by decide) (by decide))) (fun w66 => (rg_w (lo2 := 36) (hi2 := 62) (rg_eq w66 rl_62) (by decide) (by decide)))) (by decide) (by decide))) (fun w65 => (rg_w (lo2 := 36) (hi2 := 68) (rg_eq w65 rl_68) (by decide) (by decide)))) (by decide) (by decide))) (fun w64 => (rg_w (lo2 := 36) (hi2 := 69) (rg_eq w64 rl_69) (by decide) (by decide)))) (by decide) (by decide))) (fun w63 => (rg_w (lo2 := 36) (hi2 := 70) (rg_eq w63 rl_70) (by decide) (by decide)))) (by decide) (by decide))) (fun w62 => (rg_w (lo2 := 36) (hi2 := 71) (rg_eq w62 rl_71) (by decide) (by decide)))) (by decide) (by decide))) (fun w61 => (rg_w (lo2 := 36) (hi2 := 74) (rg_eq w61 rl_74) (by decide) (by decide)))) (by decide) (by decide))) (fun w60 => (rg_w (lo2 := 36) (hi2 := 75) (rg_eq w60 rl_75) (by decide) (by decide)))) (by decide) (by decide))) (fun w59 => (rg_w (lo2 := 36) (hi2 := 93) (rg_eq w59 rl_93) (by decide) (by decide)))) (by decide) (by decide))) (fun w58 => (rg_w (lo2 := 36) (hi2 := 94) (rg_eq w58 rl_94) (by decide) (by decide)))) (by decide) (by decide))) (fun w57 => (rg_w (lo2 := 36) (hi2 := 95) (rg_eq w57 rl_95) (by decide) (by decide)))) (by decide) (by decide))) (fun w56 => (rg_w (lo2 := 36) (hi2 := 110) (rg_eq w56 rl_110) (by decide) (by decide)))) (by decide) (by decide))) (fun w55 => (rg_w (lo2 := 36) (hi2 := 194) (rg_eq w55 rl_194) (by decide) (by decide)))) (by decide) (by decide))) (fun w54 => (rg_w (lo2 := 36) (hi2 := 196) (rg_eq w54 rl_196) (by decide) (by decide)))) (by decide) (by decide))) (fun w53 => (rg_w (lo2 := 36) (hi2 := 197) (rg_eq w53 rl_197) (by decide) (by decide)))) (by decide) (by decide)))⟩
                  · exact ⟨ok, (rg_w rl_0 (by decide) (by decide))⟩
  · refine jn_pred (fun z17 => rg 0 255 z17) (fun z17 h17 => ?_) ?_
    · exact ⟨ok, h17⟩
    · refine ite_pred (fun c17 => ?_) (fun c17 => ?_)
      · exact app_i (xr_1 ok _)
      · exact app_i (rg_w rl_0 (by decide) (by decide))

set_option maxHeartbeats 4000000 in
theorem kp_x2_load (σ : Sg) (x1 : Int32) {ka kb : Int32} {m : Int} (hk : Kp ka kb m σ) (hm : m ≤ 1500270000) : Kp ka kb m (x2_load σ x1).2 := by
  have hm0 : 0 ≤ m := hk.nn
  show Kpi ka kb m (x2_load σ x1)
  unfold x2_load
  refine ite_pred (fun c3 => ?_) (fun c3 => ?_)
  · refine ite_pred (fun c36_0 => ?_) (fun c36_0 => ?_)
    · refine ite_pred (fun c42 => ?_) (fun c42 => ?_)
      · exact Kp.w hk (by omega)
      · exact Kp.w hk (by omega)
    · refine ite_pred (fun c36_1 => ?_) (fun c36_1 => ?_)
      · refine ite_pred (fun c42_1 => ?_) (fun c42_1 => ?_)
        · exact Kp.w hk (by omega)
        · exact Kp.w hk (by omega)
      · refine ite_pred (fun c36_2 => ?_) (fun c36_2 => ?_)
        · refine ite_pred (fun c42_2 => ?_) (fun c42_2 => ?_)
          · exact Kp.w hk (by omega)
          · exact Kp.w hk (by omega)
        · refine ite_pred (fun c36_3 => ?_) (fun c36_3 => ?_)
          · refine ite_pred (fun c42_3 => ?_) (fun c42_3 => ?_)
            · exact Kp.w hk (by omega)
            · exact Kp.w hk (by omega)
          · refine ite_pred (fun c36_4 => ?_) (fun c36_4 => ?_)
            · refine ite_pred (fun c42_4 => ?_) (fun c42_4 => ?_)
              · exact Kp.w hk (by omega)
              · exact Kp.w hk (by omega)
            · refine ite_pred (fun c36_5 => ?_) (fun c36_5 => ?_)
              · refine ite_pred (fun c42_5 => ?_) (fun c42_5 => ?_)
                · exact Kp.w hk (by omega)
                · exact Kp.w hk (by omega)
              · refine ite_pred (fun c36_6 => ?_) (fun c36_6 => ?_)
                · refine ite_pred (fun c42_6 => ?_) (fun c42_6 => ?_)
                  · exact Kp.w hk (by omega)
                  · refine lt_pred (fun z62 e62 => ?_)
                    have q62 : Kp ka kb m z62.2 := by rw [e62]; exact Kp.w (kp_x6_load σ x1 hk (by omega)) (by omega)
                    exact Kp.w q62 (by omega)
                · refine ite_pred (fun c36_7 => ?_) (fun c36_7 => ?_)
                  · exact Kp.w hk (by omega)
                  · exact Kp.w hk (by omega)
  · refine jn_pred (fun z17 => True) (fun z17 h17 => ?_) ?_
    · exact Kp.w hk (by omega)
    · refine ite_pred (fun c17 => ?_) (fun c17 => ?_)
      · exact app_i trivial
      · exact app_i trivial

def x2_store (σ : Sg) (x1 : Int32) (x2 : Int32) : Sg :=
  lt ((
    if (¬ (x1 < 32)) ∧ (x1 < 256) then
      if x1 = 35 then
        lt (x4_store σ x1 (x2 &&& 255)) fun s55 =>
        s55
      else
        if x1 = 53 then
          lt (x5_store σ x1 (x2 &&& 255)) fun s55_1 =>
          s55_1
        else
          if ((x1 = 63) ∨ (x1 = 64)) ∨ (x1 = 65) then
            lt (x7_store σ x1 (x2 &&& 255)) fun s55_2 =>
            s55_2
          else
            if (x1 = 84) ∨ (x1 = 85) then
              lt (x9_store σ x1 (x2 &&& 255)) fun s55_3 =>
              s55_3
            else
              if x1 = 87 then
                lt (x10_store σ x1 (x2 &&& 255)) fun s55_4 =>
                s55_4
              else
                if x1 = 96 then
                  lt (x8_store σ x1 (x2 &&& 255)) fun s55_5 =>
                  s55_5
                else
                  if ((x1 = 192) ∨ (x1 = 193)) ∨ (x1 = 198) then
                    lt (x6_store σ x1 (x2 &&& 255)) fun s55_6 =>
                    s55_6
                  else
                    if (((((((((((((((x1 = 36) ∨ (x1 = 37)) ∨ (x1 = 62)) ∨ (x1 = 68)) ∨ (x1 = 69)) ∨ (x1 = 70)) ∨ (x1 = 71)) ∨ (x1 = 74)) ∨ (x1 = 75)) ∨ (x1 = 93)) ∨ (x1 = 94)) ∨ (x1 = 95)) ∨ (x1 = 110)) ∨ (x1 = 194)) ∨ (x1 = 196)) ∨ (x1 = 197) then
                      lt (x3_store σ x1 (x2 &&& 255)) fun s55_7 =>
                      s55_7
                    else
                      σ
    else
      if x1 < 1280 then
        lt (sst σ 1 (x1).toNatClampNeg (x2 &&& 255)) fun s30 =>
        s30
      else
        σ) : Sg) fun z3 =>
  z3
set_option maxHeartbeats 4000000 in
theorem ok_x2_store (σ : Sg) (x1 : Int32) (x2 : Int32) (ok : XOK σ) (hx1 : rg 0 65535 x1) : XOK (x2_store σ x1 x2) := by
  unfold x2_store
  refine jn_pred (fun z3 => XOK z3) (fun z3 h3 => ?_) ?_
  · exact h3
  · refine ite_pred (fun c3 => ?_) (fun c3 => ?_)
    · refine ite_pred (fun c39_0 => ?_) (fun c39_0 => ?_)
      · refine lt_pred (fun s55 e55 => ?_)
        have k55 : XOK s55 := by rw [e55]; exact ok_x4_store σ x1 (x2 &&& 255) ok (rg_and_r (rg_w (lo2 := 0) rl_255 (by decide) (Int.le_refl _)))
        exact app_i k55
      · refine ite_pred (fun c39_1 => ?_) (fun c39_1 => ?_)
        · refine lt_pred (fun s55_1 e55_1 => ?_)
          have k55_1 : XOK s55_1 := by rw [e55_1]; exact ok_x5_store σ x1 (x2 &&& 255) ok
          exact app_i k55_1
        · refine ite_pred (fun c39_2 => ?_) (fun c39_2 => ?_)
          · refine lt_pred (fun s55_2 e55_2 => ?_)
            have k55_2 : XOK s55_2 := by rw [e55_2]; exact ok_x7_store σ x1 (x2 &&& 255) ok (rg_w (Or.elim c39_2 (fun w115 => (rg_w (lo2 := 63) (hi2 := 65) (Or.elim w115 (fun w116 => (rg_w (lo2 := 63) (hi2 := 64) (rg_eq w116 rl_63) (by decide) (by decide))) (fun w116 => (rg_w (lo2 := 63) (hi2 := 64) (rg_eq w116 rl_64) (by decide) (by decide)))) (by decide) (by decide))) (fun w115 => (rg_w (lo2 := 63) (hi2 := 65) (rg_eq w115 rl_65) (by decide) (by decide)))) (by decide) (by decide)) (rg_and_r (rg_w (lo2 := 0) rl_255 (by decide) (Int.le_refl _)))
            exact app_i k55_2
          · refine ite_pred (fun c39_3 => ?_) (fun c39_3 => ?_)
            · refine lt_pred (fun s55_3 e55_3 => ?_)
              have k55_3 : XOK s55_3 := by rw [e55_3]; exact ok_x9_store σ x1 (x2 &&& 255) ok (rg_w (Or.elim c39_3 (fun w125 => (rg_w (lo2 := 84) (hi2 := 85) (rg_eq w125 rl_84) (by decide) (by decide))) (fun w125 => (rg_w (lo2 := 84) (hi2 := 85) (rg_eq w125 rl_85) (by decide) (by decide)))) (by decide) (by decide)) (rg_and_r (rg_w (lo2 := 0) rl_255 (by decide) (Int.le_refl _)))
              exact app_i k55_3
            · refine ite_pred (fun c39_4 => ?_) (fun c39_4 => ?_)
              · refine lt_pred (fun s55_4 e55_4 => ?_)
                have k55_4 : XOK s55_4 := by rw [e55_4]; exact ok_x10_store σ x1 (x2 &&& 255) ok (rg_and_r (rg_w (lo2 := 0) rl_255 (by decide) (Int.le_refl _)))
                exact app_i k55_4
              · refine ite_pred (fun c39_5 => ?_) (fun c39_5 => ?_)
                · refine lt_pred (fun s55_5 e55_5 => ?_)
                  have k55_5 : XOK s55_5 := by rw [e55_5]; exact ok_x8_store σ x1 (x2 &&& 255) ok (rg_and_r (rg_w (lo2 := 0) rl_255 (by decide) (Int.le_refl _)))
                  exact app_i k55_5
                · refine ite_pred (fun c39_6 => ?_) (fun c39_6 => ?_)
                  · refine lt_pred (fun s55_6 e55_6 => ?_)
                    have k55_6 : XOK s55_6 := by rw [e55_6]; exact ok_x6_store σ x1 (x2 &&& 255) ok (rg_and_r (rg_w (lo2 := 0) rl_255 (by decide) (Int.le_refl _)))
                    exact app_i k55_6
                  · refine ite_pred (fun c39_7 => ?_) (fun c39_7 => ?_)
                    · refine lt_pred (fun s55_7 e55_7 => ?_)
                      have k55_7 : XOK s55_7 := by rw [e55_7]; exact ok_x3_store σ x1 (x2 &&& 255) ok (rg_w (Or.elim c39_7 (fun w145 => (rg_w (lo2 := 36) (hi2 := 197) (Or.elim w145 (fun w146 => (rg_w (lo2 := 36) (hi2 := 196) (Or.elim w146 (fun w147 => (rg_w (lo2 := 36) (hi2 := 194) (Or.elim w147 (fun w148 => (rg_w (lo2 := 36) (hi2 := 110) (Or.elim w148 (fun w149 => (rg_w (lo2 := 36) (hi2 := 95) (Or.elim w149 (fun w150 => (rg_w (lo2 := 36) (hi2 := 94) (Or.elim w150 (fun w151 => (rg_w (lo2 := 36) (hi2 := 93) (Or.elim w151 (fun w152 => (rg_w (lo2 := 36) (hi2 := 75) (Or.elim w152 (fun w153 => (rg_w (lo2 := 36) (hi2 := 74) (Or.elim w153 (fun w154 => (rg_w (lo2 := 36) (hi2 := 71) (Or.elim w154 (fun w155 => (rg_w (lo2 := 36) (hi2 := 70) (Or.elim w155 (fun w156 => (rg_w (lo2 := 36) (hi2 := 69) (Or.elim w156 (fun w157 => (rg_w (lo2 := 36) (hi2 := 68) (Or.elim w157 (fun w158 => (rg_w (lo2 := 36) (hi2 := 62) (Or.elim w158 (fun w159 => (rg_w (lo2 := 36) (hi2 := 37) (rg_eq w159 rl_36) (by decide) (by decide))) (fun w159 => (rg_w (lo2 := 36) (hi2 := 37) (rg_eq w159 rl_37) (by decide) (by decide)))) (by decide) (by decide))) (fun w158 => (rg_w (lo2 := 36) (hi2 := 62) (rg_eq w158 rl_62) (by decide) (by decide)))) (by decide) (by decide))) (fun w157 => (rg_w (lo2 := 36) (hi2 := 68) (rg_eq w157 rl_68) (by decide) (by decide)))) (by decide) (by decide))) (fun w156 => (rg_w (lo2 := 36) (hi2 := 69) (rg_eq w156 rl_69) (by decide) (by decide)))) (by decide) (by decide))) (fun w155 => (rg_w (lo2 := 36) (hi2 := 70) (rg_eq w155 rl_70) (by decide) (by decide)))) (by decide) (by decide))) (fun w154 => (rg_w (lo2 := 36) (hi2 := 71) (rg_eq w154 rl_71) (by decide) (by decide)))) (by decide) (by decide))) (fun w153 => (rg_w (lo2 := 36) (hi2 := 74) (rg_eq w153 rl_74) (by decide) (by decide)))) (by decide) (by decide))) (fun w152 => (rg_w (lo2 := 36) (hi2 := 75) (rg_eq w152 rl_75) (by decide) (by decide)))) (by decide) (by decide))) (fun w151 => (rg_w (lo2 := 36) (hi2 := 93) (rg_eq w151 rl_93) (by decide) (by decide)))) (by decide) (by decide))) (fun w150 => (rg_w (lo2 := 36) (hi2 := 94) (rg_eq w150 rl_94) (by decide) (by decide)))) (by decide) (by decide))) (fun w149 => (rg_w (lo2 := 36) (hi2 := 95) (rg_eq w149 rl_95) (by decide) (by decide)))) (by decide) (by decide))) (fun w148 => (rg_w (lo2 := 36) (hi2 := 110) (rg_eq w148 rl_110) (by decide) (by decide)))) (by decide) (by decide))) (fun w147 => (rg_w (lo2 := 36) (hi2 := 194) (rg_eq w147 rl_194) (by decide) (by decide)))) (by decide) (by decide))) (fun w146 => (rg_w (lo2 := 36) (hi2 := 196) (rg_eq w146 rl_196) (by decide) (by decide)))) (by decide) (by decide))) (fun w145 => (rg_w (lo2 := 36) (hi2 := 197) (rg_eq w145 rl_197) (by decide) (by decide)))) (by decide) (by decide)) (rg_and_r (rg_w (lo2 := 0) rl_255 (by decide) (Int.le_refl _)))
                      exact app_i k55_7
                    · exact app_i ok
    · refine ite_pred (fun c17 => ?_) (fun c17 => ?_)
      · refine lt_pred (fun s30 e30 => ?_)
        have k30 : XOK s30 := by rw [e30]; exact xst_1 ok (rg_and_r (rg_w (lo2 := 0) rl_255 (by decide) (Int.le_refl _)))
        exact app_i k30
      · exact app_i ok

set_option maxHeartbeats 4000000 in
theorem kp_x2_store (σ : Sg) (x1 : Int32) (x2 : Int32) {ka kb : Int32} {m : Int} (hk : Kp ka kb m σ) (hm : m ≤ 1500280000) : Kp ka kb (m + 4) (x2_store σ x1 x2) := by
  have hm0 : 0 ≤ m := hk.nn
  show Kp ka kb (m + 4) (x2_store σ x1 x2)
  unfold x2_store
  refine jn_pred (fun z3 => Kp ka kb (m + 4) z3) (fun z3 h3 => ?_) ?_
  · exact Kp.w h3 (by omega)
  · refine ite_pred (fun c3 => ?_) (fun c3 => ?_)
    · refine ite_pred (fun c39_0 => ?_) (fun c39_0 => ?_)
      · refine lt_pred (fun s55 e55 => ?_)
        have q55 : Kp ka kb m s55 := by rw [e55]; exact Kp.w (kp_x4_store σ x1 (x2 &&& 255) hk (by omega)) (by omega)
        exact app_i (Kp.w q55 (by omega))
      · refine ite_pred (fun c39_1 => ?_) (fun c39_1 => ?_)
        · refine lt_pred (fun s55_1 e55_1 => ?_)
          have q55_1 : Kp ka kb m s55_1 := by rw [e55_1]; exact Kp.w (kp_x5_store σ x1 (x2 &&& 255) hk (by omega)) (by omega)
          exact app_i (Kp.w q55_1 (by omega))
        · refine ite_pred (fun c39_2 => ?_) (fun c39_2 => ?_)
          · refine lt_pred (fun s55_2 e55_2 => ?_)
            have q55_2 : Kp ka kb (m + 4) s55_2 := by rw [e55_2]; exact Kp.w (kp_x7_store σ x1 (x2 &&& 255) hk (by omega)) (by omega)
            exact app_i (Kp.w q55_2 (by omega))
          · refine ite_pred (fun c39_3 => ?_) (fun c39_3 => ?_)
            · refine lt_pred (fun s55_3 e55_3 => ?_)
              have q55_3 : Kp ka kb m s55_3 := by rw [e55_3]; exact Kp.w (kp_x9_store σ x1 (x2 &&& 255) hk (by omega)) (by omega)
              exact app_i (Kp.w q55_3 (by omega))
            · refine ite_pred (fun c39_4 => ?_) (fun c39_4 => ?_)
              · refine lt_pred (fun s55_4 e55_4 => ?_)
                have q55_4 : Kp ka kb m s55_4 := by rw [e55_4]; exact Kp.w (kp_x10_store σ x1 (x2 &&& 255) hk (by omega)) (by omega)
                exact app_i (Kp.w q55_4 (by omega))
              · refine ite_pred (fun c39_5 => ?_) (fun c39_5 => ?_)
                · refine lt_pred (fun s55_5 e55_5 => ?_)
                  have q55_5 : Kp ka kb m s55_5 := by rw [e55_5]; exact Kp.w (kp_x8_store σ x1 (x2 &&& 255) hk (by omega)) (by omega)
                  exact app_i (Kp.w q55_5 (by omega))
                · refine ite_pred (fun c39_6 => ?_) (fun c39_6 => ?_)
                  · refine lt_pred (fun s55_6 e55_6 => ?_)
                    have q55_6 : Kp ka kb m s55_6 := by rw [e55_6]; exact Kp.w (kp_x6_store σ x1 (x2 &&& 255) hk (by omega)) (by omega)
                    exact app_i (Kp.w q55_6 (by omega))
                  · refine ite_pred (fun c39_7 => ?_) (fun c39_7 => ?_)
                    · refine lt_pred (fun s55_7 e55_7 => ?_)
                      have q55_7 : Kp ka kb m s55_7 := by rw [e55_7]; exact Kp.w (kp_x3_store σ x1 (x2 &&& 255) hk (by omega)) (by omega)
                      exact app_i (Kp.w q55_7 (by omega))
                    · exact app_i (Kp.w hk (by omega))
    · refine ite_pred (fun c17 => ?_) (fun c17 => ?_)
      · refine lt_pred (fun s30 e30 => ?_)
        have q30 : Kp ka kb m s30 := by rw [e30]; exact Kp.same hk rfl rfl rfl
        exact app_i (Kp.w q30 (by omega))
      · exact app_i (Kp.w hk (by omega))

def x2_push (σ : Sg) (x1 : Int32) : Sg :=
  lt ((x2_stack σ) : Int32) fun v4 =>
  lt (x2_store σ v4 x1) fun s8 =>
  lt (x2_toStack s8 (v4 - 1)) fun s15 =>
  s15
set_option maxHeartbeats 4000000 in
theorem ok_x2_push (σ : Sg) (x1 : Int32) (ok : XOK σ) : XOK (x2_push σ x1) := by
  unfold x2_push
  refine lt_pred (fun v4 e4 => ?_)
  have f4 : rg 0 65535 v4 := by rw [e4]; exact (ok_x2_stack σ ok)
  refine lt_pred (fun s8 e8 => ?_)
  have k8 : XOK s8 := by rw [e8]; exact ok_x2_store σ v4 x1 ok f4
  refine lt_pred (fun s15 e15 => ?_)
  have k15 : XOK s15 := by rw [e15]; exact ok_x2_toStack s8 (v4 - 1) k8
  exact k15

set_option maxHeartbeats 4000000 in
theorem kp_x2_push (σ : Sg) (x1 : Int32) {ka kb : Int32} {m : Int} (hk : Kp ka kb m σ) (hm : m ≤ 1500270000) : Kp ka kb (m + 4) (x2_push σ x1) := by
  have hm0 : 0 ≤ m := hk.nn
  show Kp ka kb (m + 4) (x2_push σ x1)
  unfold x2_push
  refine lt_pred (fun v4 e4 => ?_)
  refine lt_pred (fun s8 e8 => ?_)
  have q8 : Kp ka kb (m + 4) s8 := by rw [e8]; exact Kp.w (kp_x2_store σ v4 x1 hk (by omega)) (by omega)
  refine lt_pred (fun s15 e15 => ?_)
  have q15 : Kp ka kb (m + 4) s15 := by rw [e15]; exact Kp.w (kp_x2_toStack s8 (v4 - 1) q8 (by omega)) (by omega)
  exact Kp.w q15 (by omega)

def x2_pop (σ : Sg) : Int32 × Sg :=
  lt (x2_toStack σ ((x2_stack σ) + 1)) fun s7 =>
  lt (x2_load s7 (x2_stack s7)) fun z15 =>
  (z15.1, z15.2)
set_option maxHeartbeats 4000000 in
theorem ok_x2_pop (σ : Sg) (ok : XOK σ) : (Pri XOK 0 255) (x2_pop σ) := by
  unfold x2_pop
  refine lt_pred (fun s7 e7 => ?_)
  have k7 : XOK s7 := by rw [e7]; exact ok_x2_toStack σ ((x2_stack σ) + 1) ok
  refine lt_pred (fun z15 e15 => ?_)
  have k15 : XOK z15.2 ∧ rg 0 255 z15.1 := by rw [e15]; exact ok_x2_load s7 (x2_stack s7) k7 (ok_x2_stack s7 k7)
  exact ⟨k15.1, k15.2⟩

set_option maxHeartbeats 4000000 in
theorem kp_x2_pop (σ : Sg) {ka kb : Int32} {m : Int} (hk : Kp ka kb m σ) (hm : m ≤ 1500260000) : Kp ka kb m (x2_pop σ).2 := by
  have hm0 : 0 ≤ m := hk.nn
  show Kpi ka kb m (x2_pop σ)
  unfold x2_pop
  refine lt_pred (fun s7 e7 => ?_)
  have q7 : Kp ka kb m s7 := by rw [e7]; exact Kp.w (kp_x2_toStack σ ((x2_stack σ) + 1) hk (by omega)) (by omega)
  refine lt_pred (fun z15 e15 => ?_)
  have q15 : Kp ka kb m z15.2 := by rw [e15]; exact Kp.w (kp_x2_load s7 (x2_stack s7) q7 (by omega)) (by omega)
  exact Kp.w q15 (by omega)

def x2_go (σ : Sg) (x1 : Int32) : Sg :=
  lt (sst σ 0 0 (x1 &&& 2047)) fun s6 =>
  s6
set_option maxHeartbeats 4000000 in
theorem ok_x2_go (σ : Sg) (x1 : Int32) (ok : XOK σ) : XOK (x2_go σ x1) := by
  unfold x2_go
  refine lt_pred (fun s6 e6 => ?_)
  have k6 : XOK s6 := by rw [e6]; exact xst_0_0 ok (rg_and_r (rg_w (lo2 := 0) rl_2047 (by decide) (Int.le_refl _)))
  exact k6

set_option maxHeartbeats 4000000 in
theorem kp_x2_go (σ : Sg) (x1 : Int32) {ka kb : Int32} {m : Int} (hk : Kp ka kb m σ) (hm : m ≤ 1500290000) : Kp ka kb m (x2_go σ x1) := by
  have hm0 : 0 ≤ m := hk.nn
  show Kp ka kb m (x2_go σ x1)
  unfold x2_go
  refine lt_pred (fun s6 e6 => ?_)
  have q6 : Kp ka kb m s6 := by rw [e6]; exact Kp.same hk rfl rfl rfl
  exact Kp.w q6 (by omega)

def x2_pushPlace (σ : Sg) : Sg :=
  lt (x2_push σ ((σ 0 0) &&& 255)) fun s9 =>
  lt (x2_push s9 ((s9 0 0) >>> (8 : Int32))) fun s20 =>
  s20
set_option maxHeartbeats 4000000 in
theorem ok_x2_pushPlace (σ : Sg) (ok : XOK σ) : XOK (x2_pushPlace σ) := by
  unfold x2_pushPlace
  refine lt_pred (fun s9 e9 => ?_)
  have k9 : XOK s9 := by rw [e9]; exact ok_x2_push σ ((σ 0 0) &&& 255) ok
  refine lt_pred (fun s20 e20 => ?_)
  have k20 : XOK s20 := by rw [e20]; exact ok_x2_push s9 ((s9 0 0) >>> (8 : Int32)) k9
  exact k20

set_option maxHeartbeats 4000000 in
theorem kp_x2_pushPlace (σ : Sg) {ka kb : Int32} {m : Int} (hk : Kp ka kb m σ) (hm : m ≤ 1500260000) : Kp ka kb (m + 8) (x2_pushPlace σ) := by
  have hm0 : 0 ≤ m := hk.nn
  show Kp ka kb (m + 8) (x2_pushPlace σ)
  unfold x2_pushPlace
  refine lt_pred (fun s9 e9 => ?_)
  have q9 : Kp ka kb (m + 4) s9 := by rw [e9]; exact Kp.w (kp_x2_push σ ((σ 0 0) &&& 255) hk (by omega)) (by omega)
  refine lt_pred (fun s20 e20 => ?_)
  have q20 : Kp ka kb (m + 8) s20 := by rw [e20]; exact Kp.w (kp_x2_push s9 ((s9 0 0) >>> (8 : Int32)) q9 (by omega)) (by omega)
  exact Kp.w q20 (by omega)

def x2_popPlace (σ : Sg) : Sg :=
  lt (x2_pop σ) fun z1 =>
  lt (x2_pop z1.2) fun z11 =>
  lt (x2_go z11.2 ((z1.1 <<< (8 : Int32)) ||| z11.1)) fun s15 =>
  s15
set_option maxHeartbeats 4000000 in
theorem ok_x2_popPlace (σ : Sg) (ok : XOK σ) : XOK (x2_popPlace σ) := by
  unfold x2_popPlace
  refine lt_pred (fun z1 e1 => ?_)
  have k1 : XOK z1.2 ∧ rg 0 255 z1.1 := by rw [e1]; exact ok_x2_pop σ ok
  refine lt_pred (fun z11 e11 => ?_)
  have k11 : XOK z11.2 ∧ rg 0 255 z11.1 := by rw [e11]; exact ok_x2_pop z1.2 k1.1
  refine lt_pred (fun s15 e15 => ?_)
  have k15 : XOK s15 := by rw [e15]; exact ok_x2_go z11.2 ((z1.1 <<< (8 : Int32)) ||| z11.1) k11.1
  exact k15

set_option maxHeartbeats 4000000 in
theorem kp_x2_popPlace (σ : Sg) {ka kb : Int32} {m : Int} (hk : Kp ka kb m σ) (hm : m ≤ 1500250000) : Kp ka kb m (x2_popPlace σ) := by
  have hm0 : 0 ≤ m := hk.nn
  show Kp ka kb m (x2_popPlace σ)
  unfold x2_popPlace
  refine lt_pred (fun z1 e1 => ?_)
  have q1 : Kp ka kb m z1.2 := by rw [e1]; exact Kp.w (kp_x2_pop σ hk (by omega)) (by omega)
  refine lt_pred (fun z11 e11 => ?_)
  have q11 : Kp ka kb m z11.2 := by rw [e11]; exact Kp.w (kp_x2_pop z1.2 q1 (by omega)) (by omega)
  refine lt_pred (fun s15 e15 => ?_)
  have q15 : Kp ka kb m s15 := by rw [e15]; exact Kp.w (kp_x2_go z11.2 ((z1.1 <<< (8 : Int32)) ||| z11.1) q11 (by omega)) (by omega)
  exact Kp.w q15 (by omega)

def x2_is (σ : Sg) (x1 : Int32) : Int32 :=
  lt ((
    if ((σ 1 95) &&& x1) = 0 then
      0
    else
      1) : Int32) fun z9 =>
  z9
set_option maxHeartbeats 4000000 in
theorem ok_x2_is (σ : Sg) (x1 : Int32) (ok : XOK σ) : rg 0 1 (x2_is σ x1) := by
  unfold x2_is
  refine jn_pred (fun z9 => rg 0 1 z9) (fun z9 h9 => ?_) ?_
  · exact h9
  · refine ite_pred (fun c9 => ?_) (fun c9 => ?_)
    · exact app_i (rg_w rl_0 (by decide) (by decide))
    · exact app_i (rg_w rl_1 (by decide) (by decide))

def x2_set (σ : Sg) (x1 : Int32) (x2 : Int32) : Sg :=
  lt ((
    if x2 = 0 then
      ((σ 1 95) &&& (x1 ^^^ (-1)))
    else
      ((σ 1 95) ||| x1)) : Int32) fun z7 =>
  lt (sst σ 1 95 z7) fun s33 =>
  s33
set_option maxHeartbeats 4000000 in
theorem ok_x2_set (σ : Sg) (x1 : Int32) (x2 : Int32) (ok : XOK σ) (hx1 : rg 0 255 x1) (hx2 : rg 0 1 x2) : XOK (x2_set σ x1 x2) := by
  unfold x2_set
  refine jn_pred (fun z7 => rg 0 255 z7) (fun z7 h7 => ?_) ?_
  · refine lt_pred (fun s33 e33 => ?_)
    have k33 : XOK s33 := by rw [e33]; exact xst_1 ok h7
    exact k33
  · refine ite_pred (fun c7 => ?_) (fun c7 => ?_)
    · exact app_i (rg_and_l (xr_1 ok _))
    · exact app_i (rg_or 8 (xr_1 ok _) hx1 (by decide) (by decide) (by decide))

set_option maxHeartbeats 4000000 in
theorem kp_x2_set (σ : Sg) (x1 : Int32) (x2 : Int32) {ka kb : Int32} {m : Int} (hk : Kp ka kb m σ) (hm : m ≤ 1500290000) : Kp ka kb m (x2_set σ x1 x2) := by
  have hm0 : 0 ≤ m := hk.nn
  show Kp ka kb m (x2_set σ x1 x2)
  unfold x2_set
  refine jn_pred (fun z7 => True) (fun z7 h7 => ?_) ?_
  · refine lt_pred (fun s33 e33 => ?_)
    have q33 : Kp ka kb m s33 := by rw [e33]; exact Kp.same hk rfl rfl rfl
    exact Kp.w q33 (by omega)
  · refine ite_pred (fun c7 => ?_) (fun c7 => ?_)
    · exact app_i trivial
    · exact app_i trivial

def x2_by (σ : Sg) (x1 : Int32) (x2 : Int32) : Sg :=
  lt ((
    if (x1 &&& 128) = 0 then
      0
    else
      1) : Int32) fun z7 =>
  lt (x2_set σ 4 z7) fun s15 =>
  lt ((
    if (x1 &&& 255) = 0 then
      1
    else
      0) : Int32) fun z25 =>
  lt (x2_set s15 2 z25) fun s33 =>
  lt (x2_set s33 8 x2) fun s40 =>
  lt ((
    if (x2_is s40 4) = x2 then
      0
    else
      1) : Int32) fun z52 =>
  lt (x2_set s40 16 z52) fun s60 =>
  s60
set_option maxHeartbeats 4000000 in
theorem ok_x2_by (σ : Sg) (x1 : Int32) (x2 : Int32) (ok : XOK σ) (hx2 : rg 0 1 x2) : XOK (x2_by σ x1 x2) := by
  unfold x2_by
  refine jn_pred (fun z7 => rg 0 1 z7) (fun z7 h7 => ?_) ?_
  · refine lt_pred (fun s15 e15 => ?_)
    have k15 : XOK s15 := by rw [e15]; exact ok_x2_set σ 4 z7 ok (rg_w rl_4 (by decide) (by decide)) h7
    refine jn_pred (fun z25 => rg 0 1 z25) (fun z25 h25 => ?_) ?_
    · refine lt_pred (fun s33 e33 => ?_)
      have k33 : XOK s33 := by rw [e33]; exact ok_x2_set s15 2 z25 k15 (rg_w rl_2 (by decide) (by decide)) h25
      refine lt_pred (fun s40 e40 => ?_)
      have k40 : XOK s40 := by rw [e40]; exact ok_x2_set s33 8 x2 k33 (rg_w rl_8 (by decide) (by decide)) hx2
      refine jn_pred (fun z52 => rg 0 1 z52) (fun z52 h52 => ?_) ?_
      · refine lt_pred (fun s60 e60 => ?_)
        have k60 : XOK s60 := by rw [e60]; exact ok_x2_set s40 16 z52 k40 (rg_w rl_16 (by decide) (by decide)) h52
        exact k60
      · refine ite_pred (fun c52 => ?_) (fun c52 => ?_)
        · exact app_i (rg_w rl_0 (by decide) (by decide))
        · exact app_i (rg_w rl_1 (by decide) (by decide))
    · refine ite_pred (fun c25 => ?_) (fun c25 => ?_)
      · exact app_i (rg_w rl_1 (by decide) (by decide))
      · exact app_i (rg_w rl_0 (by decide) (by decide))
  · refine ite_pred (fun c7 => ?_) (fun c7 => ?_)
    · exact app_i (rg_w rl_0 (by decide) (by decide))
    · exact app_i (rg_w rl_1 (by decide) (by decide))

set_option maxHeartbeats 4000000 in
theorem kp_x2_by (σ : Sg) (x1 : Int32) (x2 : Int32) {ka kb : Int32} {m : Int} (hk : Kp ka kb m σ) (hm : m ≤ 1500280000) : Kp ka kb m (x2_by σ x1 x2) := by
  have hm0 : 0 ≤ m := hk.nn
  show Kp ka kb m (x2_by σ x1 x2)
  unfold x2_by
  refine jn_pred (fun z7 => True) (fun z7 h7 => ?_) ?_
  · refine lt_pred (fun s15 e15 => ?_)
    have q15 : Kp ka kb m s15 := by rw [e15]; exact Kp.w (kp_x2_set σ 4 z7 hk (by omega)) (by omega)
    refine jn_pred (fun z25 => True) (fun z25 h25 => ?_) ?_
    · refine lt_pred (fun s33 e33 => ?_)
      have q33 : Kp ka kb m s33 := by rw [e33]; exact Kp.w (kp_x2_set s15 2 z25 q15 (by omega)) (by omega)
      refine lt_pred (fun s40 e40 => ?_)
      have q40 : Kp ka kb m s40 := by rw [e40]; exact Kp.w (kp_x2_set s33 8 x2 q33 (by omega)) (by omega)
      refine jn_pred (fun z52 => True) (fun z52 h52 => ?_) ?_
      · refine lt_pred (fun s60 e60 => ?_)
        have q60 : Kp ka kb m s60 := by rw [e60]; exact Kp.w (kp_x2_set s40 16 z52 q40 (by omega)) (by omega)
        exact Kp.w q60 (by omega)
      · refine ite_pred (fun c52 => ?_) (fun c52 => ?_)
        · exact app_i trivial
        · exact app_i trivial
    · refine ite_pred (fun c25 => ?_) (fun c25 => ?_)
      · exact app_i trivial
      · exact app_i trivial
  · refine ite_pred (fun c7 => ?_) (fun c7 => ?_)
    · exact app_i trivial
    · exact app_i trivial

def x2_added (σ : Sg) (x1 : Int32) (x2 : Int32) (x3 : Int32) : Int32 × Sg :=
  lt (((x1 + x2) + x3) : Int32) fun v5 =>
  lt ((
    if 15 < (((x1 &&& 15) + (x2 &&& 15)) + x3) then
      1
    else
      0) : Int32) fun z23 =>
  lt (x2_set σ 32 z23) fun s31 =>
  lt ((
    if 255 < v5 then
      1
    else
      0) : Int32) fun z41 =>
  lt (x2_set s31 1 z41) fun s49 =>
  lt ((
    if (((x1 ^^^ v5) &&& (x2 ^^^ v5)) &&& 128) = 0 then
      0
    else
      1) : Int32) fun z68 =>
  lt (x2_by s49 v5 z68) fun s76 =>
  ((v5 &&& 255), s76)
set_option maxHeartbeats 4000000 in
theorem ok_x2_added (σ : Sg) (x1 : Int32) (x2 : Int32) (x3 : Int32) (ok : XOK σ) : (Pri XOK 0 255) (x2_added σ x1 x2 x3) := by
  unfold x2_added
  refine lt_pred (fun v5 e5 => ?_)
  refine jn_pred (fun z23 => rg 0 1 z23) (fun z23 h23 => ?_) ?_
  · refine lt_pred (fun s31 e31 => ?_)
    have k31 : XOK s31 := by rw [e31]; exact ok_x2_set σ 32 z23 ok (rg_w rl_32 (by decide) (by decide)) h23
    refine jn_pred (fun z41 => rg 0 1 z41) (fun z41 h41 => ?_) ?_
    · refine lt_pred (fun s49 e49 => ?_)
      have k49 : XOK s49 := by rw [e49]; exact ok_x2_set s31 1 z41 k31 (rg_w rl_1 (by decide) (by decide)) h41
      refine jn_pred (fun z68 => rg 0 1 z68) (fun z68 h68 => ?_) ?_
      · refine lt_pred (fun s76 e76 => ?_)
        have k76 : XOK s76 := by rw [e76]; exact ok_x2_by s49 v5 z68 k49 h68
        exact ⟨k76, (rg_and_r (rg_w (lo2 := 0) rl_255 (by decide) (Int.le_refl _)))⟩
      · refine ite_pred (fun c68 => ?_) (fun c68 => ?_)
        · exact app_i (rg_w rl_0 (by decide) (by decide))
        · exact app_i (rg_w rl_1 (by decide) (by decide))
    · refine ite_pred (fun c41 => ?_) (fun c41 => ?_)
      · exact app_i (rg_w rl_1 (by decide) (by decide))
      · exact app_i (rg_w rl_0 (by decide) (by decide))
  · refine ite_pred (fun c23 => ?_) (fun c23 => ?_)
    · exact app_i (rg_w rl_1 (by decide) (by decide))
    · exact app_i (rg_w rl_0 (by decide) (by decide))

set_option maxHeartbeats 4000000 in
theorem kp_x2_added (σ : Sg) (x1 : Int32) (x2 : Int32) (x3 : Int32) {ka kb : Int32} {m : Int} (hk : Kp ka kb m σ) (hm : m ≤ 1500270000) : Kp ka kb m (x2_added σ x1 x2 x3).2 := by
  have hm0 : 0 ≤ m := hk.nn
  show Kpi ka kb m (x2_added σ x1 x2 x3)
  unfold x2_added
  refine lt_pred (fun v5 e5 => ?_)
  refine jn_pred (fun z23 => True) (fun z23 h23 => ?_) ?_
  · refine lt_pred (fun s31 e31 => ?_)
    have q31 : Kp ka kb m s31 := by rw [e31]; exact Kp.w (kp_x2_set σ 32 z23 hk (by omega)) (by omega)
    refine jn_pred (fun z41 => True) (fun z41 h41 => ?_) ?_
    · refine lt_pred (fun s49 e49 => ?_)
      have q49 : Kp ka kb m s49 := by rw [e49]; exact Kp.w (kp_x2_set s31 1 z41 q31 (by omega)) (by omega)
      refine jn_pred (fun z68 => True) (fun z68 h68 => ?_) ?_
      · refine lt_pred (fun s76 e76 => ?_)
        have q76 : Kp ka kb m s76 := by rw [e76]; exact Kp.w (kp_x2_by s49 v5 z68 q49 (by omega)) (by omega)
        exact Kp.w q76 (by omega)
      · refine ite_pred (fun c68 => ?_) (fun c68 => ?_)
        · exact app_i trivial
        · exact app_i trivial
    · refine ite_pred (fun c41 => ?_) (fun c41 => ?_)
      · exact app_i trivial
      · exact app_i trivial
  · refine ite_pred (fun c23 => ?_) (fun c23 => ?_)
    · exact app_i trivial
    · exact app_i trivial

def x2_taken (σ : Sg) (x1 : Int32) (x2 : Int32) (x3 : Int32) : Int32 × Sg :=
  lt (((x1 - x2) - x3) : Int32) fun v5 =>
  lt ((
    if (((x1 &&& 15) - (x2 &&& 15)) - x3) < 0 then
      1
    else
      0) : Int32) fun z21 =>
  lt (x2_set σ 32 z21) fun s29 =>
  lt ((
    if v5 < 0 then
      1
    else
      0) : Int32) fun z36 =>
  lt (x2_set s29 1 z36) fun s44 =>
  lt ((
    if (((x1 ^^^ x2) &&& (x1 ^^^ v5)) &&& 128) = 0 then
      0
    else
      1) : Int32) fun z62 =>
  lt (x2_by s44 v5 z62) fun s70 =>
  ((v5 &&& 255), s70)
set_option maxHeartbeats 4000000 in
theorem ok_x2_taken (σ : Sg) (x1 : Int32) (x2 : Int32) (x3 : Int32) (ok : XOK σ) : (Pri XOK 0 255) (x2_taken σ x1 x2 x3) := by
  unfold x2_taken
  refine lt_pred (fun v5 e5 => ?_)
  refine jn_pred (fun z21 => rg 0 1 z21) (fun z21 h21 => ?_) ?_
  · refine lt_pred (fun s29 e29 => ?_)
    have k29 : XOK s29 := by rw [e29]; exact ok_x2_set σ 32 z21 ok (rg_w rl_32 (by decide) (by decide)) h21
    refine jn_pred (fun z36 => rg 0 1 z36) (fun z36 h36 => ?_) ?_
    · refine lt_pred (fun s44 e44 => ?_)
      have k44 : XOK s44 := by rw [e44]; exact ok_x2_set s29 1 z36 k29 (rg_w rl_1 (by decide) (by decide)) h36
      refine jn_pred (fun z62 => rg 0 1 z62) (fun z62 h62 => ?_) ?_
      · refine lt_pred (fun s70 e70 => ?_)
        have k70 : XOK s70 := by rw [e70]; exact ok_x2_by s44 v5 z62 k44 h62
        exact ⟨k70, (rg_and_r (rg_w (lo2 := 0) rl_255 (by decide) (Int.le_refl _)))⟩
      · refine ite_pred (fun c62 => ?_) (fun c62 => ?_)
        · exact app_i (rg_w rl_0 (by decide) (by decide))
        · exact app_i (rg_w rl_1 (by decide) (by decide))
    · refine ite_pred (fun c36 => ?_) (fun c36 => ?_)
      · exact app_i (rg_w rl_1 (by decide) (by decide))
      · exact app_i (rg_w rl_0 (by decide) (by decide))
  · refine ite_pred (fun c21 => ?_) (fun c21 => ?_)
    · exact app_i (rg_w rl_1 (by decide) (by decide))
    · exact app_i (rg_w rl_0 (by decide) (by decide))

set_option maxHeartbeats 4000000 in
theorem kp_x2_taken (σ : Sg) (x1 : Int32) (x2 : Int32) (x3 : Int32) {ka kb : Int32} {m : Int} (hk : Kp ka kb m σ) (hm : m ≤ 1500270000) : Kp ka kb m (x2_taken σ x1 x2 x3).2 := by
  have hm0 : 0 ≤ m := hk.nn
  show Kpi ka kb m (x2_taken σ x1 x2 x3)
  unfold x2_taken
  refine lt_pred (fun v5 e5 => ?_)
  refine jn_pred (fun z21 => True) (fun z21 h21 => ?_) ?_
  · refine lt_pred (fun s29 e29 => ?_)
    have q29 : Kp ka kb m s29 := by rw [e29]; exact Kp.w (kp_x2_set σ 32 z21 hk (by omega)) (by omega)
    refine jn_pred (fun z36 => True) (fun z36 h36 => ?_) ?_
    · refine lt_pred (fun s44 e44 => ?_)
      have q44 : Kp ka kb m s44 := by rw [e44]; exact Kp.w (kp_x2_set s29 1 z36 q29 (by omega)) (by omega)
      refine jn_pred (fun z62 => True) (fun z62 h62 => ?_) ?_
      · refine lt_pred (fun s70 e70 => ?_)
        have q70 : Kp ka kb m s70 := by rw [e70]; exact Kp.w (kp_x2_by s44 v5 z62 q44 (by omega)) (by omega)
        exact Kp.w q70 (by omega)
      · refine ite_pred (fun c62 => ?_) (fun c62 => ?_)
        · exact app_i trivial
        · exact app_i trivial
    · refine ite_pred (fun c36 => ?_) (fun c36 => ?_)
      · exact app_i trivial
      · exact app_i trivial
  · refine ite_pred (fun c21 => ?_) (fun c21 => ?_)
    · exact app_i trivial
    · exact app_i trivial

def x2_takenOn (σ : Sg) (x1 : Int32) (x2 : Int32) : Int32 × Sg :=
  lt ((x2_is σ 2) : Int32) fun v5 =>
  lt ((
    if (x2_is σ 1) = 0 then
      0
    else
      1) : Int32) fun z14 =>
  lt (x2_taken σ x1 x2 z14) fun z22 =>
  lt ((
    if ((x2_is z22.2 2) = 0) ∨ (v5 = 0) then
      0
    else
      1) : Int32) fun z34 =>
  lt (x2_set z22.2 2 z34) fun s46 =>
  (z22.1, s46)
set_option maxHeartbeats 4000000 in
theorem ok_x2_takenOn (σ : Sg) (x1 : Int32) (x2 : Int32) (ok : XOK σ) : (Pri XOK 0 255) (x2_takenOn σ x1 x2) := by
  unfold x2_takenOn
  refine lt_pred (fun v5 e5 => ?_)
  have f5 : rg 0 1 v5 := by rw [e5]; exact (ok_x2_is σ 2 ok)
  refine jn_pred (fun z14 => rg 0 1 z14) (fun z14 h14 => ?_) ?_
  · refine lt_pred (fun z22 e22 => ?_)
    have k22 : XOK z22.2 ∧ rg 0 255 z22.1 := by rw [e22]; exact ok_x2_taken σ x1 x2 z14 ok
    refine jn_pred (fun z34 => rg 0 1 z34) (fun z34 h34 => ?_) ?_
    · refine lt_pred (fun s46 e46 => ?_)
      have k46 : XOK s46 := by rw [e46]; exact ok_x2_set z22.2 2 z34 k22.1 (rg_w rl_2 (by decide) (by decide)) h34
      exact ⟨k46, k22.2⟩
    · refine ite_pred (fun c34 => ?_) (fun c34 => ?_)
      · exact app_i (rg_w rl_0 (by decide) (by decide))
      · exact app_i (rg_w rl_1 (by decide) (by decide))
  · refine ite_pred (fun c14 => ?_) (fun c14 => ?_)
    · exact app_i (rg_w rl_0 (by decide) (by decide))
    · exact app_i (rg_w rl_1 (by decide) (by decide))

set_option maxHeartbeats 4000000 in
theorem kp_x2_takenOn (σ : Sg) (x1 : Int32) (x2 : Int32) {ka kb : Int32} {m : Int} (hk : Kp ka kb m σ) (hm : m ≤ 1500260000) : Kp ka kb m (x2_takenOn σ x1 x2).2 := by
  have hm0 : 0 ≤ m := hk.nn
  show Kpi ka kb m (x2_takenOn σ x1 x2)
  unfold x2_takenOn
  refine lt_pred (fun v5 e5 => ?_)
  refine jn_pred (fun z14 => True) (fun z14 h14 => ?_) ?_
  · refine lt_pred (fun z22 e22 => ?_)
    have q22 : Kp ka kb m z22.2 := by rw [e22]; exact Kp.w (kp_x2_taken σ x1 x2 z14 hk (by omega)) (by omega)
    refine jn_pred (fun z34 => True) (fun z34 h34 => ?_) ?_
    · refine lt_pred (fun s46 e46 => ?_)
      have q46 : Kp ka kb m s46 := by rw [e46]; exact Kp.w (kp_x2_set z22.2 2 z34 q22 (by omega)) (by omega)
      exact Kp.w q46 (by omega)
    · refine ite_pred (fun c34 => ?_) (fun c34 => ?_)
      · exact app_i trivial
      · exact app_i trivial
  · refine ite_pred (fun c14 => ?_) (fun c14 => ?_)
    · exact app_i trivial
    · exact app_i trivial

def x2_logic (σ : Sg) (x1 : Int32) : Int32 × Sg :=
  lt (x2_by σ x1 0) fun s3 =>
  ((x1 &&& 255), s3)
set_option maxHeartbeats 4000000 in
theorem ok_x2_logic (σ : Sg) (x1 : Int32) (ok : XOK σ) : (Pri XOK 0 255) (x2_logic σ x1) := by
  unfold x2_logic
  refine lt_pred (fun s3 e3 => ?_)
  have k3 : XOK s3 := by rw [e3]; exact ok_x2_by σ x1 0 ok (rg_w rl_0 (by decide) (by decide))
  exact ⟨k3, (rg_and_r (rg_w (lo2 := 0) rl_255 (by decide) (Int.le_refl _)))⟩

set_option maxHeartbeats 4000000 in
theorem kp_x2_logic (σ : Sg) (x1 : Int32) {ka kb : Int32} {m : Int} (hk : Kp ka kb m σ) (hm : m ≤ 1500270000) : Kp ka kb m (x2_logic σ x1).2 := by
  have hm0 : 0 ≤ m := hk.nn
  show Kpi ka kb m (x2_logic σ x1)
  unfold x2_logic
  refine lt_pred (fun s3 e3 => ?_)
  have q3 : Kp ka kb m s3 := by rw [e3]; exact Kp.w (kp_x2_by σ x1 0 hk (by omega)) (by omega)
  exact Kp.w q3 (by omega)

def x2_product (σ : Sg) (x1 : Int32) (x2 : Int32) : Sg :=
  lt ((
    if (x1 &&& 32768) = 0 then
      0
    else
      1) : Int32) fun z6 =>
  lt (x2_set σ 1 z6) fun s14 =>
  lt ((
    if x2 = 0 then
      x1
    else
      (x1 <<< (1 : Int32))) : Int32) fun z18 =>
  lt (x2_toPair s14 0 z18) fun s32 =>
  lt ((
    if (z18 &&& 65535) = 0 then
      1
    else
      0) : Int32) fun z41 =>
  lt (x2_set s32 2 z41) fun s49 =>
  s49
set_option maxHeartbeats 4000000 in
theorem ok_x2_product (σ : Sg) (x1 : Int32) (x2 : Int32) (ok : XOK σ) (hx2 : rg 0 1 x2) : XOK (x2_product σ x1 x2) := by
  unfold x2_product
  refine jn_pred (fun z6 => rg 0 1 z6) (fun z6 h6 => ?_) ?_
  · refine lt_pred (fun s14 e14 => ?_)
    have k14 : XOK s14 := by rw [e14]; exact ok_x2_set σ 1 z6 ok (rg_w rl_1 (by decide) (by decide)) h6
    refine jn_pred (fun z18 => True) (fun z18 h18 => ?_) ?_
    · refine lt_pred (fun s32 e32 => ?_)
      have k32 : XOK s32 := by rw [e32]; exact ok_x2_toPair s14 0 z18 k14 (rg_w rl_0 (by decide) (by decide))
      refine jn_pred (fun z41 => rg 0 1 z41) (fun z41 h41 => ?_) ?_
      · refine lt_pred (fun s49 e49 => ?_)
        have k49 : XOK s49 := by rw [e49]; exact ok_x2_set s32 2 z41 k32 (rg_w rl_2 (by decide) (by decide)) h41
        exact k49
      · refine ite_pred (fun c41 => ?_) (fun c41 => ?_)
        · exact app_i (rg_w rl_1 (by decide) (by decide))
        · exact app_i (rg_w rl_0 (by decide) (by decide))
    · refine ite_pred (fun c18 => ?_) (fun c18 => ?_)
      · exact app_i trivial
      · exact app_i trivial
  · refine ite_pred (fun c6 => ?_) (fun c6 => ?_)
    · exact app_i (rg_w rl_0 (by decide) (by decide))
    · exact app_i (rg_w rl_1 (by decide) (by decide))

set_option maxHeartbeats 4000000 in
theorem kp_x2_product (σ : Sg) (x1 : Int32) (x2 : Int32) {ka kb : Int32} {m : Int} (hk : Kp ka kb m σ) (hm : m ≤ 1500280000) : Kp ka kb m (x2_product σ x1 x2) := by
  have hm0 : 0 ≤ m := hk.nn
  show Kp ka kb m (x2_product σ x1 x2)
  unfold x2_product
  refine jn_pred (fun z6 => True) (fun z6 h6 => ?_) ?_
  · refine lt_pred (fun s14 e14 => ?_)
    have q14 : Kp ka kb m s14 := by rw [e14]; exact Kp.w (kp_x2_set σ 1 z6 hk (by omega)) (by omega)
    refine jn_pred (fun z18 => True) (fun z18 h18 => ?_) ?_
    · refine lt_pred (fun s32 e32 => ?_)
      have q32 : Kp ka kb m s32 := by rw [e32]; exact Kp.w (kp_x2_toPair s14 0 z18 q14 (by omega)) (by omega)
      refine jn_pred (fun z41 => True) (fun z41 h41 => ?_) ?_
      · refine lt_pred (fun s49 e49 => ?_)
        have q49 : Kp ka kb m s49 := by rw [e49]; exact Kp.w (kp_x2_set s32 2 z41 q32 (by omega)) (by omega)
        exact Kp.w q49 (by omega)
      · refine ite_pred (fun c41 => ?_) (fun c41 => ?_)
        · exact app_i trivial
        · exact app_i trivial
    · refine ite_pred (fun c18 => ?_) (fun c18 => ?_)
      · exact app_i trivial
      · exact app_i trivial
  · refine ite_pred (fun c6 => ?_) (fun c6 => ?_)
    · exact app_i trivial
    · exact app_i trivial

def x2_waits (σ : Sg) : Int32 :=
  if (x2_is σ 128) = 0 then
    0
  else
    lt (((σ 1 53) &&& (σ 1 110)) : Int32) fun v27 =>
    lt (((x6_state σ) &&& (σ 1 193)) : Int32) fun v44 =>
    if ((σ 1 96) &&& 192) = 192 then
      1
    else
      if (v27 &&& 2) = 0 then
        if (v27 &&& 1) = 0 then
          if (v44 &&& 128) = 0 then
            if (v44 &&& 32) = 0 then
              if (v44 &&& 64) = 0 then
                if (¬ (((σ 1 63) &&& 8) = 0)) ∧ ((σ 0 22) = 0) then
                  7
                else
                  lt ((
                    if ((σ 1 87) &&& 129) = 128 then
                      8
                    else
                      0) : Int32) fun z149 =>
                  z149
              else
                6
            else
              5
          else
            4
        else
          3
      else
        2
set_option maxHeartbeats 4000000 in
theorem ok_x2_waits (σ : Sg) (ok : XOK σ) : rg 0 8 (x2_waits σ) := by
  unfold x2_waits
  refine ite_pred (fun c7 => ?_) (fun c7 => ?_)
  · exact (rg_w rl_0 (by decide) (by decide))
  · refine lt_pred (fun v27 e27 => ?_)
    have f27 : rg 0 255 v27 := by rw [e27]; exact (rg_and_r (xr_1 ok _))
    refine lt_pred (fun v44 e44 => ?_)
    have f44 : rg 0 255 v44 := by rw [e44]; exact (rg_and_r (xr_1 ok _))
    refine ite_pred (fun c59 => ?_) (fun c59 => ?_)
    · exact (rg_w rl_1 (by decide) (by decide))
    · refine ite_pred (fun c67 => ?_) (fun c67 => ?_)
      · refine ite_pred (fun c75 => ?_) (fun c75 => ?_)
        · refine ite_pred (fun c85 => ?_) (fun c85 => ?_)
          · refine ite_pred (fun c94 => ?_) (fun c94 => ?_)
            · refine ite_pred (fun c103 => ?_) (fun c103 => ?_)
              · refine ite_pred (fun c119 => ?_) (fun c119 => ?_)
                · exact (rg_w rl_7 (by decide) (by decide))
                · refine jn_pred (fun z149 => rg 0 8 z149) (fun z149 h149 => ?_) ?_
                  · exact h149
                  · refine ite_pred (fun c149 => ?_) (fun c149 => ?_)
                    · exact app_i (rg_w rl_8 (by decide) (by decide))
                    · exact app_i (rg_w rl_0 (by decide) (by decide))
              · exact (rg_w rl_6 (by decide) (by decide))
            · exact (rg_w rl_5 (by decide) (by decide))
          · exact (rg_w rl_4 (by decide) (by decide))
        · exact (rg_w rl_3 (by decide) (by decide))
      · exact (rg_w rl_2 (by decide) (by decide))

def x2_next (σ : Sg) : Int32 × Sg :=
  lt ((x10_word σ (σ 0 0)) : Int32) fun v11 =>
  lt (x2_go σ ((σ 0 0) + 1)) fun s19 =>
  (v11, s19)
set_option maxHeartbeats 4000000 in
theorem ok_x2_next (σ : Sg) (ok : XOK σ) : (Pri XOK 0 65535) (x2_next σ) := by
  unfold x2_next
  refine lt_pred (fun v11 e11 => ?_)
  have f11 : rg 0 65535 v11 := by rw [e11]; exact (ok_x10_word σ (σ 0 0) ok (xr0_0 ok))
  refine lt_pred (fun s19 e19 => ?_)
  have k19 : XOK s19 := by rw [e19]; exact ok_x2_go σ ((σ 0 0) + 1) ok
  exact ⟨k19, f11⟩

set_option maxHeartbeats 4000000 in
theorem kp_x2_next (σ : Sg) {ka kb : Int32} {m : Int} (hk : Kp ka kb m σ) (hm : m ≤ 1500280000) : Kp ka kb m (x2_next σ).2 := by
  have hm0 : 0 ≤ m := hk.nn
  show Kpi ka kb m (x2_next σ)
  unfold x2_next
  refine lt_pred (fun v11 e11 => ?_)
  refine lt_pred (fun s19 e19 => ?_)
  have q19 : Kp ka kb m s19 := by rw [e19]; exact Kp.w (kp_x2_go σ ((σ 0 0) + 1) hk (by omega)) (by omega)
  exact Kp.w q19 (by omega)

def x2_isLong (σ : Sg) (x0 : Int32) : Int32 :=
  lt ((
    if ((x0 &&& 64527) = 36864) ∨ ((x0 &&& 65036) = 37900) then
      1
    else
      0) : Int32) fun z6 =>
  z6
set_option maxHeartbeats 4000000 in
theorem ok_x2_isLong (σ : Sg) (x0 : Int32) : rg 0 1 (x2_isLong σ x0) := by
  unfold x2_isLong
  refine jn_pred (fun z6 => rg 0 1 z6) (fun z6 h6 => ?_) ?_
  · exact h6
  · refine ite_pred (fun c6 => ?_) (fun c6 => ?_)
    · exact app_i (rg_w rl_1 (by decide) (by decide))
    · exact app_i (rg_w rl_0 (by decide) (by decide))

def x2_skip (σ : Sg) (x1 : Int32) : Int32 × Sg :=
  if x1 = 0 then
    (1, σ)
  else
    lt (x2_next σ) fun z7 =>
    if (x2_isLong z7.2 z7.1) = 0 then
      (2, z7.2)
    else
      lt (x2_next z7.2) fun z21 =>
      (3, z21.2)
set_option maxHeartbeats 4000000 in
theorem ok_x2_skip (σ : Sg) (x1 : Int32) (ok : XOK σ) (hx1 : rg 0 1 x1) : (Pri XOK 1 3) (x2_skip σ x1) := by
  unfold x2_skip
  refine ite_pred (fun c1 => ?_) (fun c1 => ?_)
  · exact ⟨ok, (rg_w rl_1 (by decide) (by decide))⟩
  · refine lt_pred (fun z7 e7 => ?_)
    have k7 : XOK z7.2 ∧ rg 0 65535 z7.1 := by rw [e7]; exact ok_x2_next σ ok
    refine ite_pred (fun c15 => ?_) (fun c15 => ?_)
    · exact ⟨k7.1, (rg_w rl_2 (by decide) (by decide))⟩
    · refine lt_pred (fun z21 e21 => ?_)
      have k21 : XOK z21.2 ∧ rg 0 65535 z21.1 := by rw [e21]; exact ok_x2_next z7.2 k7.1
      exact ⟨k21.1, (rg_w rl_3 (by decide) (by decide))⟩

set_option maxHeartbeats 4000000 in
theorem kp_x2_skip (σ : Sg) (x1 : Int32) {ka kb : Int32} {m : Int} (hk : Kp ka kb m σ) (hm : m ≤ 1500270000) : Kp ka kb m (x2_skip σ x1).2 := by
  have hm0 : 0 ≤ m := hk.nn
  show Kpi ka kb m (x2_skip σ x1)
  unfold x2_skip
  refine ite_pred (fun c1 => ?_) (fun c1 => ?_)
  · exact Kp.w hk (by omega)
  · refine lt_pred (fun z7 e7 => ?_)
    have q7 : Kp ka kb m z7.2 := by rw [e7]; exact Kp.w (kp_x2_next σ hk (by omega)) (by omega)
    refine ite_pred (fun c15 => ?_) (fun c15 => ?_)
    · exact Kp.w q7 (by omega)
    · refine lt_pred (fun z21 e21 => ?_)
      have q21 : Kp ka kb m z21.2 := by rw [e21]; exact Kp.w (kp_x2_next z7.2 q7 (by omega)) (by omega)
      exact Kp.w q21 (by omega)

def x2_constant (σ : Sg) (x1 : Int32) : Int32 × Sg :=
  lt ((16 + ((x1 >>> (4 : Int32)) &&& 15)) : Int32) fun v9 =>
  lt ((((x1 >>> (4 : Int32)) &&& 240) ||| (x1 &&& 15)) : Int32) fun v22 =>
  lt ((x1 >>> (12 : Int32)) : Int32) fun v27 =>
  lt ((
    if v27 = 3 then
      lt (x2_taken σ (σ 1 (v9).toNatClampNeg) v22 0) fun z69 =>
      z69.2
    else
      if v27 = 4 then
        lt (x2_takenOn σ (σ 1 (v9).toNatClampNeg) v22) fun z89 =>
        lt (sst z89.2 1 (v9).toNatClampNeg z89.1) fun s92 =>
        s92
      else
        if v27 = 5 then
          lt (x2_taken σ (σ 1 (v9).toNatClampNeg) v22 0) fun z110 =>
          lt (sst z110.2 1 (v9).toNatClampNeg z110.1) fun s113 =>
          s113
        else
          if v27 = 6 then
            lt (x2_logic σ ((σ 1 (v9).toNatClampNeg) ||| v22)) fun z131 =>
            lt (sst z131.2 1 (v9).toNatClampNeg z131.1) fun s134 =>
            s134
          else
            if v27 = 7 then
              lt (x2_logic σ ((σ 1 (v9).toNatClampNeg) &&& v22)) fun z152 =>
              lt (sst z152.2 1 (v9).toNatClampNeg z152.1) fun s155 =>
              s155
            else
              lt (sst σ 1 (v9).toNatClampNeg v22) fun s165 =>
              s165) : Sg) fun z27 =>
  (1, z27)
set_option maxHeartbeats 4000000 in
theorem ok_x2_constant (σ : Sg) (x1 : Int32) (ok : XOK σ) : (Pri XOK 1 1) (x2_constant σ x1) := by
  unfold x2_constant
  refine lt_pred (fun v9 e9 => ?_)
  have f9 : rg 16 31 v9 := by rw [e9]; exact (rg_add rl_16 (rg_and_r (rg_w (lo2 := 0) rl_15 (by decide) (Int.le_refl _))) (by decide) (by decide))
  refine lt_pred (fun v22 e22 => ?_)
  have f22 : rg 0 255 v22 := by rw [e22]; exact (rg_or 8 (rg_and_r (rg_w (lo2 := 0) rl_240 (by decide) (Int.le_refl _))) (rg_and_r (rg_w (lo2 := 0) rl_15 (by decide) (Int.le_refl _))) (by decide) (by decide) (by decide))
  refine lt_pred (fun v27 e27 => ?_)
  refine jn_pred (fun z27 => XOK z27) (fun z27 h27 => ?_) ?_
  · exact ⟨h27, rl_1⟩
  · refine ite_pred (fun c27_3 => ?_) (fun c27_3 => ?_)
    · refine lt_pred (fun z69 e69 => ?_)
      have k69 : XOK z69.2 ∧ rg 0 255 z69.1 := by rw [e69]; exact ok_x2_taken σ (σ 1 (v9).toNatClampNeg) v22 0 ok
      exact app_i k69.1
    · refine ite_pred (fun c27_4 => ?_) (fun c27_4 => ?_)
      · refine lt_pred (fun z89 e89 => ?_)
        have k89 : XOK z89.2 ∧ rg 0 255 z89.1 := by rw [e89]; exact ok_x2_takenOn σ (σ 1 (v9).toNatClampNeg) v22 ok
        refine lt_pred (fun s92 e92 => ?_)
        have k92 : XOK s92 := by rw [e92]; exact xst_1 k89.1 k89.2
        exact app_i k92
      · refine ite_pred (fun c27_5 => ?_) (fun c27_5 => ?_)
        · refine lt_pred (fun z110 e110 => ?_)
          have k110 : XOK z110.2 ∧ rg 0 255 z110.1 := by rw [e110]; exact ok_x2_taken σ (σ 1 (v9).toNatClampNeg) v22 0 ok
          refine lt_pred (fun s113 e113 => ?_)
          have k113 : XOK s113 := by rw [e113]; exact xst_1 k110.1 k110.2
          exact app_i k113
        · refine ite_pred (fun c27_6 => ?_) (fun c27_6 => ?_)
          · refine lt_pred (fun z131 e131 => ?_)
            have k131 : XOK z131.2 ∧ rg 0 255 z131.1 := by rw [e131]; exact ok_x2_logic σ ((σ 1 (v9).toNatClampNeg) ||| v22) ok
            refine lt_pred (fun s134 e134 => ?_)
            have k134 : XOK s134 := by rw [e134]; exact xst_1 k131.1 k131.2
            exact app_i k134
          · refine ite_pred (fun c27_7 => ?_) (fun c27_7 => ?_)
            · refine lt_pred (fun z152 e152 => ?_)
              have k152 : XOK z152.2 ∧ rg 0 255 z152.1 := by rw [e152]; exact ok_x2_logic σ ((σ 1 (v9).toNatClampNeg) &&& v22) ok
              refine lt_pred (fun s155 e155 => ?_)
              have k155 : XOK s155 := by rw [e155]; exact xst_1 k152.1 k152.2
              exact app_i k155
            · refine lt_pred (fun s165 e165 => ?_)
              have k165 : XOK s165 := by rw [e165]; exact xst_1 ok f22
              exact app_i k165

set_option maxHeartbeats 4000000 in
theorem kp_x2_constant (σ : Sg) (x1 : Int32) {ka kb : Int32} {m : Int} (hk : Kp ka kb m σ) (hm : m ≤ 1500250000) : Kp ka kb m (x2_constant σ x1).2 := by
  have hm0 : 0 ≤ m := hk.nn
  show Kpi ka kb m (x2_constant σ x1)
  unfold x2_constant
  refine lt_pred (fun v9 e9 => ?_)
  refine lt_pred (fun v22 e22 => ?_)
  refine lt_pred (fun v27 e27 => ?_)
  refine jn_pred (fun z27 => Kp ka kb m z27) (fun z27 h27 => ?_) ?_
  · exact Kp.w h27 (by omega)
  · refine ite_pred (fun c27_3 => ?_) (fun c27_3 => ?_)
    · refine lt_pred (fun z69 e69 => ?_)
      have q69 : Kp ka kb m z69.2 := by rw [e69]; exact Kp.w (kp_x2_taken σ (σ 1 (v9).toNatClampNeg) v22 0 hk (by omega)) (by omega)
      exact app_i (Kp.w q69 (by omega))
    · refine ite_pred (fun c27_4 => ?_) (fun c27_4 => ?_)
      · refine lt_pred (fun z89 e89 => ?_)
        have q89 : Kp ka kb m z89.2 := by rw [e89]; exact Kp.w (kp_x2_takenOn σ (σ 1 (v9).toNatClampNeg) v22 hk (by omega)) (by omega)
        refine lt_pred (fun s92 e92 => ?_)
        have q92 : Kp ka kb m s92 := by rw [e92]; exact Kp.same q89 rfl rfl rfl
        exact app_i (Kp.w q92 (by omega))
      · refine ite_pred (fun c27_5 => ?_) (fun c27_5 => ?_)
        · refine lt_pred (fun z110 e110 => ?_)
          have q110 : Kp ka kb m z110.2 := by rw [e110]; exact Kp.w (kp_x2_taken σ (σ 1 (v9).toNatClampNeg) v22 0 hk (by omega)) (by omega)
          refine lt_pred (fun s113 e113 => ?_)
          have q113 : Kp ka kb m s113 := by rw [e113]; exact Kp.same q110 rfl rfl rfl
          exact app_i (Kp.w q113 (by omega))
        · refine ite_pred (fun c27_6 => ?_) (fun c27_6 => ?_)
          · refine lt_pred (fun z131 e131 => ?_)
            have q131 : Kp ka kb m z131.2 := by rw [e131]; exact Kp.w (kp_x2_logic σ ((σ 1 (v9).toNatClampNeg) ||| v22) hk (by omega)) (by omega)
            refine lt_pred (fun s134 e134 => ?_)
            have q134 : Kp ka kb m s134 := by rw [e134]; exact Kp.same q131 rfl rfl rfl
            exact app_i (Kp.w q134 (by omega))
          · refine ite_pred (fun c27_7 => ?_) (fun c27_7 => ?_)
            · refine lt_pred (fun z152 e152 => ?_)
              have q152 : Kp ka kb m z152.2 := by rw [e152]; exact Kp.w (kp_x2_logic σ ((σ 1 (v9).toNatClampNeg) &&& v22) hk (by omega)) (by omega)
              refine lt_pred (fun s155 e155 => ?_)
              have q155 : Kp ka kb m s155 := by rw [e155]; exact Kp.same q152 rfl rfl rfl
              exact app_i (Kp.w q155 (by omega))
            · refine lt_pred (fun s165 e165 => ?_)
              have q165 : Kp ka kb m s165 := by rw [e165]; exact Kp.same hk rfl rfl rfl
              exact app_i (Kp.w q165 (by omega))

def x2_pairs (σ : Sg) (x1 : Int32) : Int32 × Sg :=
  lt (((x1 >>> (4 : Int32)) &&& 15) : Int32) fun v6 =>
  lt ((x1 &&& 15) : Int32) fun v11 =>
  lt ((x1 >>> (8 : Int32)) : Int32) fun v16 =>
  if v16 = 1 then
    lt (x2_toPair σ (2 * v6) (x2_pair σ (2 * v11))) fun s55 =>
    (1, s55)
  else
    if v16 = 2 then
      lt (x2_product σ (((σ 1 ((16 + v6)).toNatClampNeg)).toInt8.toInt32 * ((σ 1 ((16 + v11)).toNatClampNeg)).toInt8.toInt32) 0) fun s83 =>
      (2, s83)
    else
      if v16 = 3 then
        lt ((σ 1 ((16 + (v6 &&& 7))).toNatClampNeg) : Int32) fun v100 =>
        lt ((σ 1 ((16 + (v11 &&& 7))).toNatClampNeg) : Int32) fun v114 =>
        lt ((((v6 &&& 8) >>> (2 : Int32)) ||| ((v11 &&& 8) >>> (3 : Int32))) : Int32) fun v129 =>
        lt ((
          if v129 = 1 then
            (v100 * v114)
          else
            if v129 = 2 then
              ((v100).toInt8.toInt32 * (v114).toInt8.toInt32)
            else
              ((v100).toInt8.toInt32 * v114)) : Int32) fun z135 =>
        lt ((
          if 0 < v129 then
            1
          else
            0) : Int32) fun z170 =>
        lt (x2_product σ z135 z170) fun s178 =>
        (2, s178)
      else
        (1, σ)
set_option maxHeartbeats 4000000 in
theorem ok_x2_pairs (σ : Sg) (x1 : Int32) (ok : XOK σ) : (Pri XOK 1 2) (x2_pairs σ x1) := by
  unfold x2_pairs
  refine lt_pred (fun v6 e6 => ?_)
  have f6 : rg 0 15 v6 := by rw [e6]; exact (rg_and_r (rg_w (lo2 := 0) rl_15 (by decide) (Int.le_refl _)))
  refine lt_pred (fun v11 e11 => ?_)
  have f11 : rg 0 15 v11 := by rw [e11]; exact (rg_and_r (rg_w (lo2 := 0) rl_15 (by decide) (Int.le_refl _)))
  refine lt_pred (fun v16 e16 => ?_)
  refine ite_pred (fun c16_1 => ?_) (fun c16_1 => ?_)
  · refine lt_pred (fun s55 e55 => ?_)
    have k55 : XOK s55 := by rw [e55]; exact ok_x2_toPair σ (2 * v6) (x2_pair σ (2 * v11)) ok (rg_w (rg_mul (rg_w (lo2 := 0) rl_2 (by decide) (Int.le_refl _)) f6 (by decide)) (by decide) (by decide))
    exact ⟨k55, (rg_w rl_1 (by decide) (by decide))⟩
  · refine ite_pred (fun c16_2 => ?_) (fun c16_2 => ?_)
    · refine lt_pred (fun s83 e83 => ?_)
      have k83 : XOK s83 := by rw [e83]; exact ok_x2_product σ (((σ 1 ((16 + v6)).toNatClampNeg)).toInt8.toInt32 * ((σ 1 ((16 + v11)).toNatClampNeg)).toInt8.toInt32) 0 ok (rg_w rl_0 (by decide) (by decide))
      exact ⟨k83, (rg_w rl_2 (by decide) (by decide))⟩
    · refine ite_pred (fun c16_3 => ?_) (fun c16_3 => ?_)
      · refine lt_pred (fun v100 e100 => ?_)
        have f100 : rg 0 255 v100 := by rw [e100]; exact (xr_1 ok _)
        refine lt_pred (fun v114 e114 => ?_)
        have f114 : rg 0 255 v114 := by rw [e114]; exact (xr_1 ok _)
        refine lt_pred (fun v129 e129 => ?_)
        have f129 : rg 0 3 v129 := by rw [e129]; exact (rg_or 2 (rg_shr 2 (by decide +kernel) (rg_and_r (rg_w (lo2 := 0) rl_8 (by decide) (Int.le_refl _)))) (rg_shr 3 (by decide +kernel) (rg_and_r (rg_w (lo2 := 0) rl_8 (by decide) (Int.le_refl _)))) (by decide) (by decide) (by decide))
        refine jn_pred (fun z135 => True) (fun z135 h135 => ?_) ?_
        · refine jn_pred (fun z170 => rg 0 1 z170) (fun z170 h170 => ?_) ?_
          · refine lt_pred (fun s178 e178 => ?_)
            have k178 : XOK s178 := by rw [e178]; exact ok_x2_product σ z135 z170 ok h170
            exact ⟨k178, (rg_w rl_2 (by decide) (by decide))⟩
          · refine ite_pred (fun c170 => ?_) (fun c170 => ?_)
            · exact app_i (rg_w rl_1 (by decide) (by decide))
            · exact app_i (rg_w rl_0 (by decide) (by decide))
        · refine ite_pred (fun c135 => ?_) (fun c135 => ?_)
          · exact app_i trivial
          · refine ite_pred (fun c149 => ?_) (fun c149 => ?_)
            · exact app_i trivial
            · exact app_i trivial
      · exact ⟨ok, (rg_w rl_1 (by decide) (by decide))⟩

set_option maxHeartbeats 4000000 in
theorem kp_x2_pairs (σ : Sg) (x1 : Int32) {ka kb : Int32} {m : Int} (hk : Kp ka kb m σ) (hm : m ≤ 1500270000) : Kp ka kb m (x2_pairs σ x1).2 := by
  have hm0 : 0 ≤ m := hk.nn
  show Kpi ka kb m (x2_pairs σ x1)
  unfold x2_pairs
  refine lt_pred (fun v6 e6 => ?_)
  refine lt_pred (fun v11 e11 => ?_)
  refine lt_pred (fun v16 e16 => ?_)
  refine ite_pred (fun c16_1 => ?_) (fun c16_1 => ?_)
  · refine lt_pred (fun s55 e55 => ?_)
    have q55 : Kp ka kb m s55 := by rw [e55]; exact Kp.w (kp_x2_toPair σ (2 * v6) (x2_pair σ (2 * v11)) hk (by omega)) (by omega)
    exact Kp.w q55 (by omega)
  · refine ite_pred (fun c16_2 => ?_) (fun c16_2 => ?_)
    · refine lt_pred (fun s83 e83 => ?_)
      have q83 : Kp ka kb m s83 := by rw [e83]; exact Kp.w (kp_x2_product σ (((σ 1 ((16 + v6)).toNatClampNeg)).toInt8.toInt32 * ((σ 1 ((16 + v11)).toNatClampNeg)).toInt8.toInt32) 0 hk (by omega)) (by omega)
      exact Kp.w q83 (by omega)
    · refine ite_pred (fun c16_3 => ?_) (fun c16_3 => ?_)
      · refine lt_pred (fun v100 e100 => ?_)
        refine lt_pred (fun v114 e114 => ?_)
        refine lt_pred (fun v129 e129 => ?_)
        refine jn_pred (fun z135 => True) (fun z135 h135 => ?_) ?_
        · refine jn_pred (fun z170 => True) (fun z170 h170 => ?_) ?_
          · refine lt_pred (fun s178 e178 => ?_)
            have q178 : Kp ka kb m s178 := by rw [e178]; exact Kp.w (kp_x2_product σ z135 z170 hk (by omega)) (by omega)
            exact Kp.w q178 (by omega)
          · refine ite_pred (fun c170 => ?_) (fun c170 => ?_)
            · exact app_i trivial
            · exact app_i trivial
        · refine ite_pred (fun c135 => ?_) (fun c135 => ?_)
          · exact app_i trivial
          · refine ite_pred (fun c149 => ?_) (fun c149 => ?_)
            · exact app_i trivial
            · exact app_i trivial
      · exact Kp.w hk (by omega)

def x2_twoRegisters (σ : Sg) (x1 : Int32) : Int32 × Sg :=
  lt (((x1 >>> (4 : Int32)) &&& 31) : Int32) fun v6 =>
  lt ((σ 1 (v6).toNatClampNeg) : Int32) fun v13 =>
  lt ((σ 1 (((x1 &&& 15) ||| ((x1 >>> (5 : Int32)) &&& 16))).toNatClampNeg) : Int32) fun v30 =>
  lt ((
    if (x2_is σ 1) = 0 then
      0
    else
      1) : Int32) fun z37 =>
  lt ((x1 >>> (10 : Int32)) : Int32) fun v51 =>
  if v51 = 1 then
    lt (x2_takenOn σ v13 v30) fun z108 =>
    (1, z108.2)
  else
    if v51 = 2 then
      lt (x2_takenOn σ v13 v30) fun z124 =>
      lt (sst z124.2 1 (v6).toNatClampNeg z124.1) fun s127 =>
      (1, s127)
    else
      if v51 = 3 then
        lt (x2_added σ v13 v30 0) fun z141 =>
        lt (sst z141.2 1 (v6).toNatClampNeg z141.1) fun s144 =>
        (1, s144)
      else
        if v51 = 4 then
          lt ((
            if v13 = v30 then
              1
            else
              0) : Int32) fun z152 =>
          lt (x2_skip σ z152) fun z160 =>
          (z160.1, z160.2)
        else
          if v51 = 5 then
            lt (x2_taken σ v13 v30 0) fun z169 =>
            (1, z169.2)
          else
            if v51 = 6 then
              lt (x2_taken σ v13 v30 0) fun z186 =>
              lt (sst z186.2 1 (v6).toNatClampNeg z186.1) fun s189 =>
              (1, s189)
            else
              if v51 = 7 then
                lt (x2_added σ v13 v30 z37) fun z204 =>
                lt (sst z204.2 1 (v6).toNatClampNeg z204.1) fun s207 =>
                (1, s207)
              else
                if v51 = 8 then
                  lt (x2_logic σ (v13 &&& v30)) fun z221 =>
                  lt (sst z221.2 1 (v6).toNatClampNeg z221.1) fun s224 =>
                  (1, s224)
                else
                  if v51 = 9 then
                    lt (x2_logic σ (v13 ^^^ v30)) fun z238 =>
                    lt (sst z238.2 1 (v6).toNatClampNeg z238.1) fun s241 =>
                    (1, s241)
                  else
                    if v51 = 10 then
                      lt (x2_logic σ (v13 ||| v30)) fun z255 =>
                      lt (sst z255.2 1 (v6).toNatClampNeg z255.1) fun s258 =>
                      (1, s258)
                    else
                      lt (sst σ 1 (v6).toNatClampNeg v30) fun s269 =>
                      (1, s269)
set_option maxHeartbeats 4000000 in
theorem ok_x2_twoRegisters (σ : Sg) (x1 : Int32) (ok : XOK σ) : (Pri XOK 1 3) (x2_twoRegisters σ x1) := by
  unfold x2_twoRegisters
  refine lt_pred (fun v6 e6 => ?_)
  have f6 : rg 0 31 v6 := by rw [e6]; exact (rg_and_r (rg_w (lo2 := 0) rl_31 (by decide) (Int.le_refl _)))
  refine lt_pred (fun v13 e13 => ?_)
  have f13 : rg 0 255 v13 := by rw [e13]; exact (xr_1 ok _)
  refine lt_pred (fun v30 e30 => ?_)
  have f30 : rg 0 255 v30 := by rw [e30]; exact (xr_1 ok _)
  refine jn_pred (fun z37 => rg 0 1 z37) (fun z37 h37 => ?_) ?_
  · refine lt_pred (fun v51 e51 => ?_)
    refine ite_pred (fun c51_1 => ?_) (fun c51_1 => ?_)
    · refine lt_pred (fun z108 e108 => ?_)
      have k108 : XOK z108.2 ∧ rg 0 255 z108.1 := by rw [e108]; exact ok_x2_takenOn σ v13 v30 ok
      exact ⟨k108.1, (rg_w rl_1 (by decide) (by decide))⟩
    · refine ite_pred (fun c51_2 => ?_) (fun c51_2 => ?_)
      · refine lt_pred (fun z124 e124 => ?_)
        have k124 : XOK z124.2 ∧ rg 0 255 z124.1 := by rw [e124]; exact ok_x2_takenOn σ v13 v30 ok
        refine lt_pred (fun s127 e127 => ?_)
        have k127 : XOK s127 := by rw [e127]; exact xst_1 k124.1 k124.2
        exact ⟨k127, (rg_w rl_1 (by decide) (by decide))⟩
      · refine ite_pred (fun c51_3 => ?_) (fun c51_3 => ?_)
        · refine lt_pred (fun z141 e141 => ?_)
          have k141 : XOK z141.2 ∧ rg 0 255 z141.1 := by rw [e141]; exact ok_x2_added σ v13 v30 0 ok
          refine lt_pred (fun s144 e144 => ?_)
          have k144 : XOK s144 := by rw [e144]; exact xst_1 k141.1 k141.2
          exact ⟨k144, (rg_w rl_1 (by decide) (by decide))⟩
        · refine ite_pred (fun c51_4 => ?_) (fun c51_4 => ?_)
          · refine jn_pred (fun z152 => rg 0 1 z152) (fun z152 h152 => ?_) ?_
            · refine lt_pred (fun z160 e160 => ?_)
              have k160 : XOK z160.2 ∧ rg 1 3 z160.1 := by rw [e160]; exact ok_x2_skip σ z152 ok h152
              exact ⟨k160.1, k160.2⟩
            · refine ite_pred (fun c152 => ?_) (fun c152 => ?_)
              · exact app_i (rg_w rl_1 (by decide) (by decide))
              · exact app_i (rg_w rl_0 (by decide) (by decide))
          · refine ite_pred (fun c51_5 => ?_) (fun c51_5 => ?_)
            · refine lt_pred (fun z169 e169 => ?_)
              have k169 : XOK z169.2 ∧ rg 0 255 z169.1 := by rw [e169]; exact ok_x2_taken σ v13 v30 0 ok
              exact ⟨k169.1, (rg_w rl_1 (by decide) (by decide))⟩
            · refine ite_pred (fun c51_6 => ?_) (fun c51_6 => ?_)
              · refine lt_pred (fun z186 e186 => ?_)
                have k186 : XOK z186.2 ∧ rg 0 255 z186.1 := by rw [e186]; exact ok_x2_taken σ v13 v30 0 ok
                refine lt_pred (fun s189 e189 => ?_)
                have k189 : XOK s189 := by rw [e189]; exact xst_1 k186.1 k186.2
                exact ⟨k189, (rg_w rl_1 (by decide) (by decide))⟩
              · refine ite_pred (fun c51_7 => ?_) (fun c51_7 => ?_)
                · refine lt_pred (fun z204 e204 => ?_)
                  have k204 : XOK z204.2 ∧ rg 0 255 z204.1 := by rw [e204]; exact ok_x2_added σ v13 v30 z37 ok
                  refine lt_pred (fun s207 e207 => ?_)
                  have k207 : XOK s207 := by rw [e207]; exact xst_1 k204.1 k204.2
                  exact ⟨k207, (rg_w rl_1 (by decide) (by decide))⟩
                · refine ite_pred (fun c51_8 => ?_) (fun c51_8 => ?_)
                  · refine lt_pred (fun z221 e221 => ?_)
                    have k221 : XOK z221.2 ∧ rg 0 255 z221.1 := by rw [e221]; exact ok_x2_logic σ (v13 &&& v30) ok
                    refine lt_pred (fun s224 e224 => ?_)
                    have k224 : XOK s224 := by rw [e224]; exact xst_1 k221.1 k221.2
                    exact ⟨k224, (rg_w rl_1 (by decide) (by decide))⟩
                  · refine ite_pred (fun c51_9 => ?_) (fun c51_9 => ?_)
                    · refine lt_pred (fun z238 e238 => ?_)
                      have k238 : XOK z238.2 ∧ rg 0 255 z238.1 := by rw [e238]; exact ok_x2_logic σ (v13 ^^^ v30) ok
                      refine lt_pred (fun s241 e241 => ?_)
                      have k241 : XOK s241 := by rw [e241]; exact xst_1 k238.1 k238.2
                      exact ⟨k241, (rg_w rl_1 (by decide) (by decide))⟩
                    · refine ite_pred (fun c51_10 => ?_) (fun c51_10 => ?_)
                      · refine lt_pred (fun z255 e255 => ?_)
                        have k255 : XOK z255.2 ∧ rg 0 255 z255.1 := by rw [e255]; exact ok_x2_logic σ (v13 ||| v30) ok
                        refine lt_pred (fun s258 e258 => ?_)
                        have k258 : XOK s258 := by rw [e258]; exact xst_1 k255.1 k255.2
                        exact ⟨k258, (rg_w rl_1 (by decide) (by decide))⟩
                      · refine lt_pred (fun s269 e269 => ?_)
                        have k269 : XOK s269 := by rw [e269]; exact xst_1 ok f30
                        exact ⟨k269, (rg_w rl_1 (by decide) (by decide))⟩
  · refine ite_pred (fun c37 => ?_) (fun c37 => ?_)
    · exact app_i (rg_w rl_0 (by decide) (by decide))
    · exact app_i (rg_w rl_1 (by decide) (by decide))

set_option maxHeartbeats 4000000 in
theorem kp_x2_twoRegisters (σ : Sg) (x1 : Int32) {ka kb : Int32} {m : Int} (hk : Kp ka kb m σ) (hm : m ≤ 1500250000) : Kp ka kb m (x2_twoRegisters σ x1).2 := by
  have hm0 : 0 ≤ m := hk.nn
  show Kpi ka kb m (x2_twoRegisters σ x1)
  unfold x2_twoRegisters
  refine lt_pred (fun v6 e6 => ?_)
  refine lt_pred (fun v13 e13 => ?_)
  refine lt_pred (fun v30 e30 => ?_)
  refine jn_pred (fun z37 => True) (fun z37 h37 => ?_) ?_
  · refine lt_pred (fun v51 e51 => ?_)
    refine ite_pred (fun c51_1 => ?_) (fun c51_1 => ?_)
    · refine lt_pred (fun z108 e108 => ?_)
      have q108 : Kp ka kb m z108.2 := by rw [e108]; exact Kp.w (kp_x2_takenOn σ v13 v30 hk (by omega)) (by omega)
      exact Kp.w q108 (by omega)
    · refine ite_pred (fun c51_2 => ?_) (fun c51_2 => ?_)
      · refine lt_pred (fun z124 e124 => ?_)
        have q124 : Kp ka kb m z124.2 := by rw [e124]; exact Kp.w (kp_x2_takenOn σ v13 v30 hk (by omega)) (by omega)
        refine lt_pred (fun s127 e127 => ?_)
        have q127 : Kp ka kb m s127 := by rw [e127]; exact Kp.same q124 rfl rfl rfl
        exact Kp.w q127 (by omega)
      · refine ite_pred (fun c51_3 => ?_) (fun c51_3 => ?_)
        · refine lt_pred (fun z141 e141 => ?_)
          have q141 : Kp ka kb m z141.2 := by rw [e141]; exact Kp.w (kp_x2_added σ v13 v30 0 hk (by omega)) (by omega)
          refine lt_pred (fun s144 e144 => ?_)
          have q144 : Kp ka kb m s144 := by rw [e144]; exact Kp.same q141 rfl rfl rfl
          exact Kp.w q144 (by omega)
        · refine ite_pred (fun c51_4 => ?_) (fun c51_4 => ?_)
          · refine jn_pred (fun z152 => True) (fun z152 h152 => ?_) ?_
            · refine lt_pred (fun z160 e160 => ?_)
              have q160 : Kp ka kb m z160.2 := by rw [e160]; exact Kp.w (kp_x2_skip σ z152 hk (by omega)) (by omega)
              exact Kp.w q160 (by omega)
            · refine ite_pred (fun c152 => ?_) (fun c152 => ?_)
              · exact app_i trivial
              · exact app_i trivial
          · refine ite_pred (fun c51_5 => ?_) (fun c51_5 => ?_)
            · refine lt_pred (fun z169 e169 => ?_)
              have q169 : Kp ka kb m z169.2 := by rw [e169]; exact Kp.w (kp_x2_taken σ v13 v30 0 hk (by omega)) (by omega)
              exact Kp.w q169 (by omega)
            · refine ite_pred (fun c51_6 => ?_) (fun c51_6 => ?_)
              · refine lt_pred (fun z186 e186 => ?_)
                have q186 : Kp ka kb m z186.2 := by rw [e186]; exact Kp.w (kp_x2_taken σ v13 v30 0 hk (by omega)) (by omega)
                refine lt_pred (fun s189 e189 => ?_)
                have q189 : Kp ka kb m s189 := by rw [e189]; exact Kp.same q186 rfl rfl rfl
                exact Kp.w q189 (by omega)
              · refine ite_pred (fun c51_7 => ?_) (fun c51_7 => ?_)
                · refine lt_pred (fun z204 e204 => ?_)
                  have q204 : Kp ka kb m z204.2 := by rw [e204]; exact Kp.w (kp_x2_added σ v13 v30 z37 hk (by omega)) (by omega)
                  refine lt_pred (fun s207 e207 => ?_)
                  have q207 : Kp ka kb m s207 := by rw [e207]; exact Kp.same q204 rfl rfl rfl
                  exact Kp.w q207 (by omega)
                · refine ite_pred (fun c51_8 => ?_) (fun c51_8 => ?_)
                  · refine lt_pred (fun z221 e221 => ?_)
                    have q221 : Kp ka kb m z221.2 := by rw [e221]; exact Kp.w (kp_x2_logic σ (v13 &&& v30) hk (by omega)) (by omega)
                    refine lt_pred (fun s224 e224 => ?_)
                    have q224 : Kp ka kb m s224 := by rw [e224]; exact Kp.same q221 rfl rfl rfl
                    exact Kp.w q224 (by omega)
                  · refine ite_pred (fun c51_9 => ?_) (fun c51_9 => ?_)
                    · refine lt_pred (fun z238 e238 => ?_)
                      have q238 : Kp ka kb m z238.2 := by rw [e238]; exact Kp.w (kp_x2_logic σ (v13 ^^^ v30) hk (by omega)) (by omega)
                      refine lt_pred (fun s241 e241 => ?_)
                      have q241 : Kp ka kb m s241 := by rw [e241]; exact Kp.same q238 rfl rfl rfl
                      exact Kp.w q241 (by omega)
                    · refine ite_pred (fun c51_10 => ?_) (fun c51_10 => ?_)
                      · refine lt_pred (fun z255 e255 => ?_)
                        have q255 : Kp ka kb m z255.2 := by rw [e255]; exact Kp.w (kp_x2_logic σ (v13 ||| v30) hk (by omega)) (by omega)
                        refine lt_pred (fun s258 e258 => ?_)
                        have q258 : Kp ka kb m s258 := by rw [e258]; exact Kp.same q255 rfl rfl rfl
                        exact Kp.w q258 (by omega)
                      · refine lt_pred (fun s269 e269 => ?_)
                        have q269 : Kp ka kb m s269 := by rw [e269]; exact Kp.same hk rfl rfl rfl
                        exact Kp.w q269 (by omega)
  · refine ite_pred (fun c37 => ?_) (fun c37 => ?_)
    · exact app_i trivial
    · exact app_i trivial

def x2_move (σ : Sg) (x1 : Int32) (x2 : Int32) : Sg :=
  lt (((x1 >>> (4 : Int32)) &&& 31) : Int32) fun v6 =>
  lt ((
    if (x1 &&& 512) = 0 then
      lt (x2_load σ x2) fun z36 =>
      lt (sst z36.2 1 (v6).toNatClampNeg z36.1) fun s39 =>
      s39
    else
      lt (x2_store σ x2 (σ 1 (v6).toNatClampNeg)) fun s23 =>
      s23) : Sg) fun z12 =>
  z12
set_option maxHeartbeats 4000000 in
theorem ok_x2_move (σ : Sg) (x1 : Int32) (x2 : Int32) (ok : XOK σ) (hx2 : rg 0 65535 x2) : XOK (x2_move σ x1 x2) := by
  unfold x2_move
  refine lt_pred (fun v6 e6 => ?_)
  have f6 : rg 0 31 v6 := by rw [e6]; exact (rg_and_r (rg_w (lo2 := 0) rl_31 (by decide) (Int.le_refl _)))
  refine jn_pred (fun z12 => XOK z12) (fun z12 h12 => ?_) ?_
  · exact h12
  · refine ite_pred (fun c12 => ?_) (fun c12 => ?_)
    · refine lt_pred (fun z36 e36 => ?_)
      have k36 : XOK z36.2 ∧ rg 0 255 z36.1 := by rw [e36]; exact ok_x2_load σ x2 ok hx2
      refine lt_pred (fun s39 e39 => ?_)
      have k39 : XOK s39 := by rw [e39]; exact xst_1 k36.1 k36.2
      exact app_i k39
    · refine lt_pred (fun s23 e23 => ?_)
      have k23 : XOK s23 := by rw [e23]; exact ok_x2_store σ x2 (σ 1 (v6).toNatClampNeg) ok hx2
      exact app_i k23

set_option maxHeartbeats 4000000 in
theorem kp_x2_move (σ : Sg) (x1 : Int32) (x2 : Int32) {ka kb : Int32} {m : Int} (hk : Kp ka kb m σ) (hm : m ≤ 1500260000) : Kp ka kb (m + 4) (x2_move σ x1 x2) := by
  have hm0 : 0 ≤ m := hk.nn
  show Kp ka kb (m + 4) (x2_move σ x1 x2)
  unfold x2_move
  refine lt_pred (fun v6 e6 => ?_)
  refine jn_pred (fun z12 => Kp ka kb (m + 4) z12) (fun z12 h12 => ?_) ?_
  · exact Kp.w h12 (by omega)
  · refine ite_pred (fun c12 => ?_) (fun c12 => ?_)
    · refine lt_pred (fun z36 e36 => ?_)
      have q36 : Kp ka kb m z36.2 := by rw [e36]; exact Kp.w (kp_x2_load σ x2 hk (by omega)) (by omega)
      refine lt_pred (fun s39 e39 => ?_)
      have q39 : Kp ka kb m s39 := by rw [e39]; exact Kp.same q36 rfl rfl rfl
      exact app_i (Kp.w q39 (by omega))
    · refine lt_pred (fun s23 e23 => ?_)
      have q23 : Kp ka kb (m + 4) s23 := by rw [e23]; exact Kp.w (kp_x2_store σ x2 (σ 1 (v6).toNatClampNeg) hk (by omega)) (by omega)
      exact app_i (Kp.w q23 (by omega))

def x2_displaced (σ : Sg) (x1 : Int32) : Int32 × Sg :=
  lt ((((x1 &&& 7) ||| ((x1 >>> (7 : Int32)) &&& 24)) ||| ((x1 >>> (8 : Int32)) &&& 32)) : Int32) fun v20 =>
  lt ((
    if (x1 &&& 8) = 0 then
      30
    else
      28) : Int32) fun z26 =>
  lt ((((x2_pair σ z26) + v20) &&& 65535) : Int32) fun v44 =>
  lt (x2_move σ x1 v44) fun s48 =>
  (2, s48)
set_option maxHeartbeats 4000000 in
theorem ok_x2_displaced (σ : Sg) (x1 : Int32) (ok : XOK σ) : (Pri XOK 2 2) (x2_displaced σ x1) := by
  unfold x2_displaced
  refine lt_pred (fun v20 e20 => ?_)
  have f20 : rg 0 63 v20 := by rw [e20]; exact (rg_or 6 (rg_or 5 (rg_and_r (rg_w (lo2 := 0) rl_7 (by decide) (Int.le_refl _))) (rg_and_r (rg_w (lo2 := 0) rl_24 (by decide) (Int.le_refl _))) (by decide) (by decide) (by decide)) (rg_and_r (rg_w (lo2 := 0) rl_32 (by decide) (Int.le_refl _))) (by decide) (by decide) (by decide))
  refine jn_pred (fun z26 => rg 28 30 z26) (fun z26 h26 => ?_) ?_
  · refine lt_pred (fun v44 e44 => ?_)
    have f44 : rg 0 65535 v44 := by rw [e44]; exact (rg_and_r (rg_w (lo2 := 0) rl_65535 (by decide) (Int.le_refl _)))
    refine lt_pred (fun s48 e48 => ?_)
    have k48 : XOK s48 := by rw [e48]; exact ok_x2_move σ x1 v44 ok f44
    exact ⟨k48, rl_2⟩
  · refine ite_pred (fun c26 => ?_) (fun c26 => ?_)
    · exact app_i (rg_w rl_30 (by decide) (by decide))
    · exact app_i (rg_w rl_28 (by decide) (by decide))

set_option maxHeartbeats 4000000 in
theorem kp_x2_displaced (σ : Sg) (x1 : Int32) {ka kb : Int32} {m : Int} (hk : Kp ka kb m σ) (hm : m ≤ 1500250000) : Kp ka kb (m + 4) (x2_displaced σ x1).2 := by
  have hm0 : 0 ≤ m := hk.nn
  show Kpi ka kb (m + 4) (x2_displaced σ x1)
  unfold x2_displaced
  refine lt_pred (fun v20 e20 => ?_)
  refine jn_pred (fun z26 => True) (fun z26 h26 => ?_) ?_
  · refine lt_pred (fun v44 e44 => ?_)
    refine lt_pred (fun s48 e48 => ?_)
    have q48 : Kp ka kb (m + 4) s48 := by rw [e48]; exact Kp.w (kp_x2_move σ x1 v44 hk (by omega)) (by omega)
    exact Kp.w q48 (by omega)
  · refine ite_pred (fun c26 => ?_) (fun c26 => ?_)
    · exact app_i trivial
    · exact app_i trivial

def x2_pointer (σ : Sg) (x0 : Int32) : Int32 :=
  lt ((
    if x0 < 4 then
      30
    else
      if x0 < 12 then
        28
      else
        26) : Int32) fun z2 =>
  z2
set_option maxHeartbeats 4000000 in
theorem ok_x2_pointer (σ : Sg) (x0 : Int32) : rg 26 30 (x2_pointer σ x0) := by
  unfold x2_pointer
  refine jn_pred (fun z2 => rg 26 30 z2) (fun z2 h2 => ?_) ?_
  · exact h2
  · refine ite_pred (fun c2 => ?_) (fun c2 => ?_)
    · exact app_i (rg_w rl_30 (by decide) (by decide))
    · refine ite_pred (fun c13 => ?_) (fun c13 => ?_)
      · exact app_i (rg_w rl_28 (by decide) (by decide))
      · exact app_i (rg_w rl_26 (by decide) (by decide))

def x2_moved (σ : Sg) (x1 : Int32) (x2 : Int32) : Int32 × Sg :=
  lt ((x1 &&& 15) : Int32) fun v4 =>
  lt (((x1 >>> (4 : Int32)) &&& 31) : Int32) fun v11 =>
  lt ((
    if (x1 &&& 512) = 0 then
      0
    else
      1) : Int32) fun z18 =>
  if v4 = 0 then
    lt (x2_next σ) fun z111 =>
    lt (x2_move z111.2 x1 z111.1) fun s114 =>
    (2, s114)
  else
    if ((((((v4 = 1) ∨ (v4 = 2)) ∨ (v4 = 9)) ∨ (v4 = 10)) ∨ (v4 = 12)) ∨ (v4 = 13)) ∨ (v4 = 14) then
      lt ((x2_pointer σ v4) : Int32) fun v123 =>
      lt ((σ 1 (v11).toNatClampNeg) : Int32) fun v132 =>
      lt ((x2_pair σ v123) : Int32) fun v140 =>
      lt ((
        if (v4 = 2) ∨ ((v4 = 10) ∨ (v4 = 14)) then
          1
        else
          0) : Int32) fun z144 =>
      lt ((
        if z144 = 0 then
          v140
        else
          lt (((v140 - 1) &&& 65535) : Int32) fun v178 =>
          v178) : Int32) fun z168 =>
      lt ((
        if v4 = 12 then
          σ
        else
          lt ((
            if z144 = 0 then
              (z168 + 1)
            else
              z168) : Int32) fun z191 =>
          lt (x2_toPair σ v123 z191) fun s203 =>
          s203) : Sg) fun z183 =>
      lt ((
        if z18 = 0 then
          lt (x2_load z183 z168) fun z231 =>
          lt (sst z231.2 1 (v11).toNatClampNeg z231.1) fun s234 =>
          s234
        else
          lt (x2_store z183 z168 v132) fun s216 =>
          s216) : Sg) fun z208 =>
      (2, z208)
    else
      if (v4 = 4) ∨ (v4 = 5) then
        if z18 = 0 then
          lt ((x2_pair σ 30) : Int32) fun v250 =>
          lt ((
            if v4 = 5 then
              lt (x2_toPair σ 30 (v250 + 1)) fun s264 =>
              s264
            else
              σ) : Sg) fun z254 =>
          lt (x10_read z254 v250 x2) fun z280 =>
          lt (sst z280.2 1 (v11).toNatClampNeg z280.1) fun s283 =>
          (3, s283)
        else
          (1, σ)
      else
        if v4 = 15 then
          lt ((
            if z18 = 0 then
              lt (x2_pop σ) fun z312 =>
              lt (sst z312.2 1 (v11).toNatClampNeg z312.1) fun s315 =>
              s315
            else
              lt (x2_push σ (σ 1 (v11).toNatClampNeg)) fun s299 =>
              s299) : Sg) fun z288 =>
          (2, z288)
        else
          (1, σ)
set_option maxHeartbeats 4000000 in
theorem ok_x2_moved (σ : Sg) (x1 : Int32) (x2 : Int32) (ok : XOK σ) (hx2 : rg 0 1 x2) : (Pri XOK 1 3) (x2_moved σ x1 x2) := by
  unfold x2_moved
  refine lt_pred (fun v4 e4 => ?_)
  have f4 : rg 0 15 v4 := by rw [e4]; exact (rg_and_r (rg_w (lo2 := 0) rl_15 (by decide) (Int.le_refl _)))
  refine lt_pred (fun v11 e11 => ?_)
  have f11 : rg 0 31 v11 := by rw [e11]; exact (rg_and_r (rg_w (lo2 := 0) rl_31 (by decide) (Int.le_refl _)))
  refine jn_pred (fun z18 => rg 0 1 z18) (fun z18 h18 => ?_) ?_
  · refine ite_pred (fun c29_0 => ?_) (fun c29_0 => ?_)
    · refine lt_pred (fun z111 e111 => ?_)
      have k111 : XOK z111.2 ∧ rg 0 65535 z111.1 := by rw [e111]; exact ok_x2_next σ ok
      refine lt_pred (fun s114 e114 => ?_)
      have k114 : XOK s114 := by rw [e114]; exact ok_x2_move z111.2 x1 z111.1 k111.1 k111.2
      exact ⟨k114, (rg_w rl_2 (by decide) (by decide))⟩
    · refine ite_pred (fun c29_1 => ?_) (fun c29_1 => ?_)
      · refine lt_pred (fun v123 e123 => ?_)
        have f123 : rg 26 30 v123 := by rw [e123]; exact (ok_x2_pointer σ v4)
        refine lt_pred (fun v132 e132 => ?_)
        have f132 : rg 0 255 v132 := by rw [e132]; exact (xr_1 ok _)
        refine lt_pred (fun v140 e140 => ?_)
        have f140 : rg 0 65535 v140 := by rw [e140]; exact (ok_x2_pair σ v123 ok (rg_w f123 (by decide) (by decide)))
        refine jn_pred (fun z144 => rg 0 1 z144) (fun z144 h144 => ?_) ?_
        · refine jn_pred (fun z168 => rg 0 65535 z168) (fun z168 h168 => ?_) ?_
          · refine jn_pred (fun z183 => XOK z183) (fun z183 h183 => ?_) ?_
            · refine jn_pred (fun z208 => XOK z208) (fun z208 h208 => ?_) ?_
              · exact ⟨h208, (rg_w rl_2 (by decide) (by decide))⟩
              · refine ite_pred (fun c208 => ?_) (fun c208 => ?_)
                · refine lt_pred (fun z231 e231 => ?_)
                  have k231 : XOK z231.2 ∧ rg 0 255 z231.1 := by rw [e231]; exact ok_x2_load z183 z168 h183 h168
                  refine lt_pred (fun s234 e234 => ?_)
                  have k234 : XOK s234 := by rw [e234]; exact xst_1 k231.1 k231.2
                  exact app_i k234
                · refine lt_pred (fun s216 e216 => ?_)
                  have k216 : XOK s216 := by rw [e216]; exact ok_x2_store z183 z168 v132 h183 h168
                  exact app_i k216
            · refine ite_pred (fun c183 => ?_) (fun c183 => ?_)
              · exact app_i ok
              · refine jn_pred (fun z191 => rg 0 65536 z191) (fun z191 h191 => ?_) ?_
                · refine lt_pred (fun s203 e203 => ?_)
                  have k203 : XOK s203 := by rw [e203]; exact ok_x2_toPair σ v123 z191 ok (rg_w f123 (by decide) (by decide))
                  exact app_i k203
                · refine ite_pred (fun c191 => ?_) (fun c191 => ?_)
                  · exact app_i (rg_w (rg_add h168 rl_1 (by decide) (by decide)) (by decide) (by decide))
                  · exact app_i (rg_w h168 (by decide) (by decide))
          · refine ite_pred (fun c168 => ?_) (fun c168 => ?_)
            · exact app_i f140
            · refine lt_pred (fun v178 e178 => ?_)
              have f178 : rg 0 65535 v178 := by rw [e178]; exact (rg_and_r (rg_w (lo2 := 0) rl_65535 (by decide) (Int.le_refl _)))
              exact app_i f178
        · refine ite_pred (fun c144 => ?_) (fun c144 => ?_)
          · exact app_i (rg_w rl_1 (by decide) (by decide))
          · exact app_i (rg_w rl_0 (by decide) (by decide))
      · have n29_1 : ¬ v4 = 1 := (fun q => c29_1 (Or.inl (Or.inl (Or.inl (Or.inl (Or.inl (Or.inl q)))))))
        have n29_2 : ¬ v4 = 2 := (fun q => c29_1 (Or.inl (Or.inl (Or.inl (Or.inl (Or.inl (Or.inr q)))))))
        have n29_9 : ¬ v4 = 9 := (fun q => c29_1 (Or.inl (Or.inl (Or.inl (Or.inl (Or.inr q))))))
        have n29_10 : ¬ v4 = 10 := (fun q => c29_1 (Or.inl (Or.inl (Or.inl (Or.inr q)))))
        have n29_12 : ¬ v4 = 12 := (fun q => c29_1 (Or.inl (Or.inl (Or.inr q))))
        have n29_13 : ¬ v4 = 13 := (fun q => c29_1 (Or.inl (Or.inr q)))
        have n29_14 : ¬ v4 = 14 := (fun q => c29_1 (Or.inr q))
        refine ite_pred (fun c29_4 => ?_) (fun c29_4 => ?_)
        · refine ite_pred (fun c239 => ?_) (fun c239 => ?_)
          · refine lt_pred (fun v250 e250 => ?_)
            have f250 : rg 0 65535 v250 := by rw [e250]; exact (ok_x2_pair σ 30 ok (rg_w rl_30 (by decide) (by decide)))
            refine jn_pred (fun z254 => XOK z254) (fun z254 h254 => ?_) ?_
            · refine lt_pred (fun z280 e280 => ?_)
              have k280 : XOK z280.2 ∧ rg 0 255 z280.1 := by rw [e280]; exact ok_x10_read z254 v250 x2 h254 hx2
              refine lt_pred (fun s283 e283 => ?_)
              have k283 : XOK s283 := by rw [e283]; exact xst_1 k280.1 k280.2
              exact ⟨k283, (rg_w rl_3 (by decide) (by decide))⟩
            · refine ite_pred (fun c254 => ?_) (fun c254 => ?_)
              · refine lt_pred (fun s264 e264 => ?_)
                have k264 : XOK s264 := by rw [e264]; exact ok_x2_toPair σ 30 (v250 + 1) ok (rg_w rl_30 (by decide) (by decide))
                exact app_i k264
              · exact app_i ok
          · exact ⟨ok, (rg_w rl_1 (by decide) (by decide))⟩
        · have n29_4 : ¬ v4 = 4 := (fun q => c29_4 (Or.inl q))
          have n29_5 : ¬ v4 = 5 := (fun q => c29_4 (Or.inr q))
          refine ite_pred (fun c29_15 => ?_) (fun c29_15 => ?_)
          · refine jn_pred (fun z288 => XOK z288) (fun z288 h288 => ?_) ?_
            · exact ⟨h288, (rg_w rl_2 (by decide) (by decide))⟩
            · refine ite_pred (fun c288 => ?_) (fun c288 => ?_)
              · refine lt_pred (fun z312 e312 => ?_)
                have k312 : XOK z312.2 ∧ rg 0 255 z312.1 := by rw [e312]; exact ok_x2_pop σ ok
                refine lt_pred (fun s315 e315 => ?_)
                have k315 : XOK s315 := by rw [e315]; exact xst_1 k312.1 k312.2
                exact app_i k315
              · refine lt_pred (fun s299 e299 => ?_)
                have k299 : XOK s299 := by rw [e299]; exact ok_x2_push σ (σ 1 (v11).toNatClampNeg) ok
                exact app_i k299
          · exact ⟨ok, (rg_w rl_1 (by decide) (by decide))⟩
  · refine ite_pred (fun c18 => ?_) (fun c18 => ?_)
    · exact app_i (rg_w rl_0 (by decide) (by decide))
    · exact app_i (rg_w rl_1 (by decide) (by decide))

set_option maxHeartbeats 4000000 in
theorem kp_x2_moved (σ : Sg) (x1 : Int32) (x2 : Int32) {ka kb : Int32} {m : Int} (hk : Kp ka kb m σ) (hm : m ≤ 1500250000) : Kp ka kb (m + 4) (x2_moved σ x1 x2).2 := by
  have hm0 : 0 ≤ m := hk.nn
  show Kpi ka kb (m + 4) (x2_moved σ x1 x2)
  unfold x2_moved
  refine lt_pred (fun v4 e4 => ?_)
  refine lt_pred (fun v11 e11 => ?_)
  refine jn_pred (fun z18 => True) (fun z18 h18 => ?_) ?_
  · refine ite_pred (fun c29_0 => ?_) (fun c29_0 => ?_)
    · refine lt_pred (fun z111 e111 => ?_)
      have q111 : Kp ka kb m z111.2 := by rw [e111]; exact Kp.w (kp_x2_next σ hk (by omega)) (by omega)
      refine lt_pred (fun s114 e114 => ?_)
      have q114 : Kp ka kb (m + 4) s114 := by rw [e114]; exact Kp.w (kp_x2_move z111.2 x1 z111.1 q111 (by omega)) (by omega)
      exact Kp.w q114 (by omega)
    · refine ite_pred (fun c29_1 => ?_) (fun c29_1 => ?_)
      · refine lt_pred (fun v123 e123 => ?_)
        refine lt_pred (fun v132 e132 => ?_)
        refine lt_pred (fun v140 e140 => ?_)
        refine jn_pred (fun z144 => True) (fun z144 h144 => ?_) ?_
        · refine jn_pred (fun z168 => True) (fun z168 h168 => ?_) ?_
          · refine jn_pred (fun z183 => Kp ka kb m z183) (fun z183 h183 => ?_) ?_
            · refine jn_pred (fun z208 => Kp ka kb (m + 4) z208) (fun z208 h208 => ?_) ?_
              · exact Kp.w h208 (by omega)
              · refine ite_pred (fun c208 => ?_) (fun c208 => ?_)
                · refine lt_pred (fun z231 e231 => ?_)
                  have q231 : Kp ka kb m z231.2 := by rw [e231]; exact Kp.w (kp_x2_load z183 z168 h183 (by omega)) (by omega)
                  refine lt_pred (fun s234 e234 => ?_)
                  have q234 : Kp ka kb m s234 := by rw [e234]; exact Kp.same q231 rfl rfl rfl
                  exact app_i (Kp.w q234 (by omega))
                · refine lt_pred (fun s216 e216 => ?_)
                  have q216 : Kp ka kb (m + 4) s216 := by rw [e216]; exact Kp.w (kp_x2_store z183 z168 v132 h183 (by omega)) (by omega)
                  exact app_i (Kp.w q216 (by omega))
            · refine ite_pred (fun c183 => ?_) (fun c183 => ?_)
              · exact app_i (Kp.w hk (by omega))
              · refine jn_pred (fun z191 => True) (fun z191 h191 => ?_) ?_
                · refine lt_pred (fun s203 e203 => ?_)
                  have q203 : Kp ka kb m s203 := by rw [e203]; exact Kp.w (kp_x2_toPair σ v123 z191 hk (by omega)) (by omega)
                  exact app_i (Kp.w q203 (by omega))
                · refine ite_pred (fun c191 => ?_) (fun c191 => ?_)
                  · exact app_i trivial
                  · exact app_i trivial
          · refine ite_pred (fun c168 => ?_) (fun c168 => ?_)
            · exact app_i trivial
            · refine lt_pred (fun v178 e178 => ?_)
              exact app_i trivial
        · refine ite_pred (fun c144 => ?_) (fun c144 => ?_)
          · exact app_i trivial
          · exact app_i trivial
      · refine ite_pred (fun c29_4 => ?_) (fun c29_4 => ?_)
        · refine ite_pred (fun c239 => ?_) (fun c239 => ?_)
          · refine lt_pred (fun v250 e250 => ?_)
            refine jn_pred (fun z254 => Kp ka kb m z254) (fun z254 h254 => ?_) ?_
            · refine lt_pred (fun z280 e280 => ?_)
              have q280 : Kp ka kb m z280.2 := by rw [e280]; exact Kp.w (kp_x10_read z254 v250 x2 h254 (by omega)) (by omega)
              refine lt_pred (fun s283 e283 => ?_)
              have q283 : Kp ka kb m s283 := by rw [e283]; exact Kp.same q280 rfl rfl rfl
              exact Kp.w q283 (by omega)
            · refine ite_pred (fun c254 => ?_) (fun c254 => ?_)
              · refine lt_pred (fun s264 e264 => ?_)
                have q264 : Kp ka kb m s264 := by rw [e264]; exact Kp.w (kp_x2_toPair σ 30 (v250 + 1) hk (by omega)) (by omega)
                exact app_i (Kp.w q264 (by omega))
              · exact app_i (Kp.w hk (by omega))
          · exact Kp.w hk (by omega)
        · refine ite_pred (fun c29_15 => ?_) (fun c29_15 => ?_)
          · refine jn_pred (fun z288 => Kp ka kb (m + 4) z288) (fun z288 h288 => ?_) ?_
            · exact Kp.w h288 (by omega)
            · refine ite_pred (fun c288 => ?_) (fun c288 => ?_)
              · refine lt_pred (fun z312 e312 => ?_)
                have q312 : Kp ka kb m z312.2 := by rw [e312]; exact Kp.w (kp_x2_pop σ hk (by omega)) (by omega)
                refine lt_pred (fun s315 e315 => ?_)
                have q315 : Kp ka kb m s315 := by rw [e315]; exact Kp.same q312 rfl rfl rfl
                exact app_i (Kp.w q315 (by omega))
              · refine lt_pred (fun s299 e299 => ?_)
                have q299 : Kp ka kb (m + 4) s299 := by rw [e299]; exact Kp.w (kp_x2_push σ (σ 1 (v11).toNatClampNeg) hk (by omega)) (by omega)
                exact app_i (Kp.w q299 (by omega))
          · exact Kp.w hk (by omega)
  · refine ite_pred (fun c18 => ?_) (fun c18 => ?_)
    · exact app_i trivial
    · exact app_i trivial

def x2_portBits (σ : Sg) (x1 : Int32) : Int32 × Sg :=
  lt ((32 + ((x1 >>> (3 : Int32)) &&& 31)) : Int32) fun v9 =>
  lt (((1 : Int32) <<< ((x1 &&& 7) &&& 31)) : Int32) fun v16 =>
  lt (((x1 >>> (8 : Int32)) &&& 3) : Int32) fun v23 =>
  if (v23 &&& 1) = 0 then
    lt ((
      if (v9 = 35) ∨ (v9 = 53) then
        1
      else
        0) : Int32) fun z74 =>
    lt ((
      if z74 = 0 then
        lt (x2_load σ v9) fun z112 =>
        lt ((
          if v23 = 2 then
            (z112.1 ||| v16)
          else
            (z112.1 &&& (v16 ^^^ (-1)))) : Int32) fun z122 =>
        lt (x2_store z112.2 v9 z122) fun s138 =>
        s138
      else
        if v23 = 2 then
          lt (x2_store σ v9 v16) fun s104 =>
          s104
        else
          σ) : Sg) fun z92 =>
    (2, z92)
  else
    lt (x2_load σ v9) fun z35 =>
    lt ((
      if (z35.1 &&& v16) = 0 then
        0
      else
        1) : Int32) fun z40 =>
    lt ((
      if v23 = 3 then
        1
      else
        0) : Int32) fun z51 =>
    lt ((
      if z40 = z51 then
        1
      else
        0) : Int32) fun z59 =>
    lt (x2_skip z35.2 z59) fun z67 =>
    (z67.1, z67.2)
set_option maxHeartbeats 4000000 in
theorem ok_x2_portBits (σ : Sg) (x1 : Int32) (ok : XOK σ) : (Pri XOK 1 3) (x2_portBits σ x1) := by
  unfold x2_portBits
  refine lt_pred (fun v9 e9 => ?_)
  have f9 : rg 32 63 v9 := by rw [e9]; exact (rg_add rl_32 (rg_and_r (rg_w (lo2 := 0) rl_31 (by decide) (Int.le_refl _))) (by decide) (by decide))
  refine lt_pred (fun v16 e16 => ?_)
  have f16 : rg 0 255 v16 := by rw [e16]; exact (rg_bit (rg_and_r (rg_w (lo2 := 0) rl_7 (by decide) (Int.le_refl _))) (by decide))
  refine lt_pred (fun v23 e23 => ?_)
  have f23 : rg 0 3 v23 := by rw [e23]; exact (rg_and_r (rg_w (lo2 := 0) rl_3 (by decide) (Int.le_refl _)))
  refine ite_pred (fun c29 => ?_) (fun c29 => ?_)
  · refine jn_pred (fun z74 => rg 0 1 z74) (fun z74 h74 => ?_) ?_
    · refine jn_pred (fun z92 => XOK z92) (fun z92 h92 => ?_) ?_
      · exact ⟨h92, (rg_w rl_2 (by decide) (by decide))⟩
      · refine ite_pred (fun c92 => ?_) (fun c92 => ?_)
        · refine lt_pred (fun z112 e112 => ?_)
          have k112 : XOK z112.2 ∧ rg 0 255 z112.1 := by rw [e112]; exact ok_x2_load σ v9 ok (rg_w f9 (by decide) (by decide))
          refine jn_pred (fun z122 => rg 0 255 z122) (fun z122 h122 => ?_) ?_
          · refine lt_pred (fun s138 e138 => ?_)
            have k138 : XOK s138 := by rw [e138]; exact ok_x2_store z112.2 v9 z122 k112.1 (rg_w f9 (by decide) (by decide))
            exact app_i k138
          · refine ite_pred (fun c122 => ?_) (fun c122 => ?_)
            · exact app_i (rg_or 8 k112.2 f16 (by decide) (by decide) (by decide))
            · exact app_i (rg_and_l k112.2)
        · refine ite_pred (fun c98 => ?_) (fun c98 => ?_)
          · refine lt_pred (fun s104 e104 => ?_)
            have k104 : XOK s104 := by rw [e104]; exact ok_x2_store σ v9 v16 ok (rg_w f9 (by decide) (by decide))
            exact app_i k104
          · exact app_i ok
    · refine ite_pred (fun c74 => ?_) (fun c74 => ?_)
      · exact app_i (rg_w rl_1 (by decide) (by decide))
      · exact app_i (rg_w rl_0 (by decide) (by decide))
  · refine lt_pred (fun z35 e35 => ?_)
    have k35 : XOK z35.2 ∧ rg 0 255 z35.1 := by rw [e35]; exact ok_x2_load σ v9 ok (rg_w f9 (by decide) (by decide))
    refine jn_pred (fun z40 => rg 0 1 z40) (fun z40 h40 => ?_) ?_
    · refine jn_pred (fun z51 => rg 0 1 z51) (fun z51 h51 => ?_) ?_
      · refine jn_pred (fun z59 => rg 0 1 z59) (fun z59 h59 => ?_) ?_
        · refine lt_pred (fun z67 e67 => ?_)
          have k67 : XOK z67.2 ∧ rg 1 3 z67.1 := by rw [e67]; exact ok_x2_skip z35.2 z59 k35.1 h59
          exact ⟨k67.1, k67.2⟩
        · refine ite_pred (fun c59 => ?_) (fun c59 => ?_)
          · exact app_i (rg_w rl_1 (by decide) (by decide))
          · exact app_i (rg_w rl_0 (by decide) (by decide))
      · refine ite_pred (fun c51 => ?_) (fun c51 => ?_)
        · exact app_i (rg_w rl_1 (by decide) (by decide))
        · exact app_i (rg_w rl_0 (by decide) (by decide))
    · refine ite_pred (fun c40 => ?_) (fun c40 => ?_)
      · exact app_i (rg_w rl_0 (by decide) (by decide))
      · exact app_i (rg_w rl_1 (by decide) (by decide))

set_option maxHeartbeats 4000000 in
theorem kp_x2_portBits (σ : Sg) (x1 : Int32) {ka kb : Int32} {m : Int} (hk : Kp ka kb m σ) (hm : m ≤ 1500260000) : Kp ka kb (m + 4) (x2_portBits σ x1).2 := by
  have hm0 : 0 ≤ m := hk.nn
  show Kpi ka kb (m + 4) (x2_portBits σ x1)
  unfold x2_portBits
  refine lt_pred (fun v9 e9 => ?_)
  refine lt_pred (fun v16 e16 => ?_)
  refine lt_pred (fun v23 e23 => ?_)
  refine ite_pred (fun c29 => ?_) (fun c29 => ?_)
  · refine jn_pred (fun z74 => True) (fun z74 h74 => ?_) ?_
    · refine jn_pred (fun z92 => Kp ka kb (m + 4) z92) (fun z92 h92 => ?_) ?_
      · exact Kp.w h92 (by omega)
      · refine ite_pred (fun c92 => ?_) (fun c92 => ?_)
        · refine lt_pred (fun z112 e112 => ?_)
          have q112 : Kp ka kb m z112.2 := by rw [e112]; exact Kp.w (kp_x2_load σ v9 hk (by omega)) (by omega)
          refine jn_pred (fun z122 => True) (fun z122 h122 => ?_) ?_
          · refine lt_pred (fun s138 e138 => ?_)
            have q138 : Kp ka kb (m + 4) s138 := by rw [e138]; exact Kp.w (kp_x2_store z112.2 v9 z122 q112 (by omega)) (by omega)
            exact app_i (Kp.w q138 (by omega))
          · refine ite_pred (fun c122 => ?_) (fun c122 => ?_)
            · exact app_i trivial
            · exact app_i trivial
        · refine ite_pred (fun c98 => ?_) (fun c98 => ?_)
          · refine lt_pred (fun s104 e104 => ?_)
            have q104 : Kp ka kb (m + 4) s104 := by rw [e104]; exact Kp.w (kp_x2_store σ v9 v16 hk (by omega)) (by omega)
            exact app_i (Kp.w q104 (by omega))
          · exact app_i (Kp.w hk (by omega))
    · refine ite_pred (fun c74 => ?_) (fun c74 => ?_)
      · exact app_i trivial
      · exact app_i trivial
  · refine lt_pred (fun z35 e35 => ?_)
    have q35 : Kp ka kb m z35.2 := by rw [e35]; exact Kp.w (kp_x2_load σ v9 hk (by omega)) (by omega)
    refine jn_pred (fun z40 => True) (fun z40 h40 => ?_) ?_
    · refine jn_pred (fun z51 => True) (fun z51 h51 => ?_) ?_
      · refine jn_pred (fun z59 => True) (fun z59 h59 => ?_) ?_
        · refine lt_pred (fun z67 e67 => ?_)
          have q67 : Kp ka kb m z67.2 := by rw [e67]; exact Kp.w (kp_x2_skip z35.2 z59 q35 (by omega)) (by omega)
          exact Kp.w q67 (by omega)
        · refine ite_pred (fun c59 => ?_) (fun c59 => ?_)
          · exact app_i trivial
          · exact app_i trivial
      · refine ite_pred (fun c51 => ?_) (fun c51 => ?_)
        · exact app_i trivial
        · exact app_i trivial
    · refine ite_pred (fun c40 => ?_) (fun c40 => ?_)
      · exact app_i trivial
      · exact app_i trivial

def x2_ports (σ : Sg) (x1 : Int32) : Int32 × Sg :=
  lt ((32 + ((x1 &&& 15) ||| ((x1 >>> (5 : Int32)) &&& 48))) : Int32) fun v14 =>
  lt (((x1 >>> (4 : Int32)) &&& 31) : Int32) fun v21 =>
  lt ((
    if (x1 &&& 2048) = 0 then
      lt (x2_load σ v14) fun z51 =>
      lt (sst z51.2 1 (v21).toNatClampNeg z51.1) fun s54 =>
      s54
    else
      lt (x2_store σ v14 (σ 1 (v21).toNatClampNeg)) fun s38 =>
      s38) : Sg) fun z27 =>
  (1, z27)
set_option maxHeartbeats 4000000 in
theorem ok_x2_ports (σ : Sg) (x1 : Int32) (ok : XOK σ) : (Pri XOK 1 1) (x2_ports σ x1) := by
  unfold x2_ports
  refine lt_pred (fun v14 e14 => ?_)
  have f14 : rg 32 95 v14 := by rw [e14]; exact (rg_add rl_32 (rg_or 6 (rg_and_r (rg_w (lo2 := 0) rl_15 (by decide) (Int.le_refl _))) (rg_and_r (rg_w (lo2 := 0) rl_48 (by decide) (Int.le_refl _))) (by decide) (by decide) (by decide)) (by decide) (by decide))
  refine lt_pred (fun v21 e21 => ?_)
  have f21 : rg 0 31 v21 := by rw [e21]; exact (rg_and_r (rg_w (lo2 := 0) rl_31 (by decide) (Int.le_refl _)))
  refine jn_pred (fun z27 => XOK z27) (fun z27 h27 => ?_) ?_
  · exact ⟨h27, rl_1⟩
  · refine ite_pred (fun c27 => ?_) (fun c27 => ?_)
    · refine lt_pred (fun z51 e51 => ?_)
      have k51 : XOK z51.2 ∧ rg 0 255 z51.1 := by rw [e51]; exact ok_x2_load σ v14 ok (rg_w f14 (by decide) (by decide))
      refine lt_pred (fun s54 e54 => ?_)
      have k54 : XOK s54 := by rw [e54]; exact xst_1 k51.1 k51.2
      exact app_i k54
    · refine lt_pred (fun s38 e38 => ?_)
      have k38 : XOK s38 := by rw [e38]; exact ok_x2_store σ v14 (σ 1 (v21).toNatClampNeg) ok (rg_w f14 (by decide) (by decide))
      exact app_i k38

set_option maxHeartbeats 4000000 in
theorem kp_x2_ports (σ : Sg) (x1 : Int32) {ka kb : Int32} {m : Int} (hk : Kp ka kb m σ) (hm : m ≤ 1500260000) : Kp ka kb (m + 4) (x2_ports σ x1).2 := by
  have hm0 : 0 ≤ m := hk.nn
  show Kpi ka kb (m + 4) (x2_ports σ x1)
  unfold x2_ports
  refine lt_pred (fun v14 e14 => ?_)
  refine lt_pred (fun v21 e21 => ?_)
  refine jn_pred (fun z27 => Kp ka kb (m + 4) z27) (fun z27 h27 => ?_) ?_
  · exact Kp.w h27 (by omega)
  · refine ite_pred (fun c27 => ?_) (fun c27 => ?_)
    · refine lt_pred (fun z51 e51 => ?_)
      have q51 : Kp ka kb m z51.2 := by rw [e51]; exact Kp.w (kp_x2_load σ v14 hk (by omega)) (by omega)
      refine lt_pred (fun s54 e54 => ?_)
      have q54 : Kp ka kb m s54 := by rw [e54]; exact Kp.same q51 rfl rfl rfl
      exact app_i (Kp.w q54 (by omega))
    · refine lt_pred (fun s38 e38 => ?_)
      have q38 : Kp ka kb (m + 4) s38 := by rw [e38]; exact Kp.w (kp_x2_store σ v14 (σ 1 (v21).toNatClampNeg) hk (by omega)) (by omega)
      exact app_i (Kp.w q38 (by omega))

def x2_words (σ : Sg) (x1 : Int32) : Int32 × Sg :=
  lt ((24 + ((x1 >>> (3 : Int32)) &&& 6)) : Int32) fun v9 =>
  lt ((((x1 >>> (2 : Int32)) &&& 48) ||| (x1 &&& 15)) : Int32) fun v21 =>
  lt ((x2_pair σ v9) : Int32) fun v27 =>
  lt ((
    if (x1 &&& 256) = 0 then
      0
    else
      1) : Int32) fun z34 =>
  lt ((
    if z34 = 0 then
      (v27 + v21)
    else
      (v27 - v21)) : Int32) fun z46 =>
  lt (x2_toPair σ v9 z46) fun s66 =>
  lt ((
    if (z46 < 0) ∨ (65535 < z46) then
      1
    else
      0) : Int32) fun z73 =>
  lt (x2_set s66 1 z73) fun s88 =>
  lt ((
    if (z46 &&& 32768) = 0 then
      0
    else
      1) : Int32) fun z98 =>
  lt (x2_set s88 4 z98) fun s106 =>
  lt ((
    if (z46 &&& 65535) = 0 then
      1
    else
      0) : Int32) fun z116 =>
  lt (x2_set s106 2 z116) fun s124 =>
  lt ((
    if z34 = 0 then
      ((v27 ^^^ (-1)) &&& z46)
    else
      (v27 &&& (z46 ^^^ (-1)))) : Int32) fun z132 =>
  lt ((
    if (z132 &&& 32768) = 0 then
      0
    else
      1) : Int32) fun z155 =>
  lt (x2_set s124 8 z155) fun s163 =>
  lt ((
    if (x2_is s163 4) = (x2_is s163 8) then
      0
    else
      1) : Int32) fun z180 =>
  lt (x2_set s163 16 z180) fun s188 =>
  (2, s188)
set_option maxHeartbeats 4000000 in
theorem ok_x2_words (σ : Sg) (x1 : Int32) (ok : XOK σ) : (Pri XOK 2 2) (x2_words σ x1) := by
  unfold x2_words
  refine lt_pred (fun v9 e9 => ?_)
  have f9 : rg 24 30 v9 := by rw [e9]; exact (rg_add rl_24 (rg_and_r (rg_w (lo2 := 0) rl_6 (by decide) (Int.le_refl _))) (by decide) (by decide))
  refine lt_pred (fun v21 e21 => ?_)
  have f21 : rg 0 63 v21 := by rw [e21]; exact (rg_or 6 (rg_and_r (rg_w (lo2 := 0) rl_48 (by decide) (Int.le_refl _))) (rg_and_r (rg_w (lo2 := 0) rl_15 (by decide) (Int.le_refl _))) (by decide) (by decide) (by decide))
  refine lt_pred (fun v27 e27 => ?_)
  have f27 : rg 0 65535 v27 := by rw [e27]; exact (ok_x2_pair σ v9 ok (rg_w f9 (by decide) (by decide)))
  refine jn_pred (fun z34 => rg 0 1 z34) (fun z34 h34 => ?_) ?_
  · refine jn_pred (fun z46 => rg (-63) 65598 z46) (fun z46 h46 => ?_) ?_
    · refine lt_pred (fun s66 e66 => ?_)
      have k66 : XOK s66 := by rw [e66]; exact ok_x2_toPair σ v9 z46 ok (rg_w f9 (by decide) (by decide))
      refine jn_pred (fun z73 => rg 0 1 z73) (fun z73 h73 => ?_) ?_
      · refine lt_pred (fun s88 e88 => ?_)
        have k88 : XOK s88 := by rw [e88]; exact ok_x2_set s66 1 z73 k66 (rg_w rl_1 (by decide) (by decide)) h73
        refine jn_pred (fun z98 => rg 0 1 z98) (fun z98 h98 => ?_) ?_
        · refine lt_pred (fun s106 e106 => ?_)
          have k106 : XOK s106 := by rw [e106]; exact ok_x2_set s88 4 z98 k88 (rg_w rl_4 (by decide) (by decide)) h98
          refine jn_pred (fun z116 => rg 0 1 z116) (fun z116 h116 => ?_) ?_
          · refine lt_pred (fun s124 e124 => ?_)
            have k124 : XOK s124 := by rw [e124]; exact ok_x2_set s106 2 z116 k106 (rg_w rl_2 (by decide) (by decide)) h116
            refine jn_pred (fun z132 => True) (fun z132 h132 => ?_) ?_
            · refine jn_pred (fun z155 => rg 0 1 z155) (fun z155 h155 => ?_) ?_
              · refine lt_pred (fun s163 e163 => ?_)
                have k163 : XOK s163 := by rw [e163]; exact ok_x2_set s124 8 z155 k124 (rg_w rl_8 (by decide) (by decide)) h155
                refine jn_pred (fun z180 => rg 0 1 z180) (fun z180 h180 => ?_) ?_
                · refine lt_pred (fun s188 e188 => ?_)
                  have k188 : XOK s188 := by rw [e188]; exact ok_x2_set s163 16 z180 k163 (rg_w rl_16 (by decide) (by decide)) h180
                  exact ⟨k188, rl_2⟩
                · refine ite_pred (fun c180 => ?_) (fun c180 => ?_)
                  · exact app_i (rg_w rl_0 (by decide) (by decide))
                  · exact app_i (rg_w rl_1 (by decide) (by decide))
              · refine ite_pred (fun c155 => ?_) (fun c155 => ?_)
                · exact app_i (rg_w rl_0 (by decide) (by decide))
                · exact app_i (rg_w rl_1 (by decide) (by decide))
            · refine ite_pred (fun c132 => ?_) (fun c132 => ?_)
              · exact app_i trivial
              · exact app_i trivial
          · refine ite_pred (fun c116 => ?_) (fun c116 => ?_)
            · exact app_i (rg_w rl_1 (by decide) (by decide))
            · exact app_i (rg_w rl_0 (by decide) (by decide))
        · refine ite_pred (fun c98 => ?_) (fun c98 => ?_)
          · exact app_i (rg_w rl_0 (by decide) (by decide))
          · exact app_i (rg_w rl_1 (by decide) (by decide))
      · refine ite_pred (fun c73 => ?_) (fun c73 => ?_)
        · exact app_i (rg_w rl_1 (by decide) (by decide))
        · exact app_i (rg_w rl_0 (by decide) (by decide))
    · refine ite_pred (fun c46 => ?_) (fun c46 => ?_)
      · exact app_i (rg_w (rg_add f27 f21 (by decide) (by decide)) (by decide) (by decide))
      · exact app_i (rg_w (rg_sub f27 f21 (by decide) (by decide)) (by decide) (by decide))
  · refine ite_pred (fun c34 => ?_) (fun c34 => ?_)
    · exact app_i (rg_w rl_0 (by decide) (by decide))
    · exact app_i (rg_w rl_1 (by decide) (by decide))

set_option maxHeartbeats 4000000 in
theorem kp_x2_words (σ : Sg) (x1 : Int32) {ka kb : Int32} {m : Int} (hk : Kp ka kb m σ) (hm : m ≤ 1500280000) : Kp ka kb m (x2_words σ x1).2 := by
  have hm0 : 0 ≤ m := hk.nn
  show Kpi ka kb m (x2_words σ x1)
  unfold x2_words
  refine lt_pred (fun v9 e9 => ?_)
  refine lt_pred (fun v21 e21 => ?_)
  refine lt_pred (fun v27 e27 => ?_)
  refine jn_pred (fun z34 => True) (fun z34 h34 => ?_) ?_
  · refine jn_pred (fun z46 => True) (fun z46 h46 => ?_) ?_
    · refine lt_pred (fun s66 e66 => ?_)
      have q66 : Kp ka kb m s66 := by rw [e66]; exact Kp.w (kp_x2_toPair σ v9 z46 hk (by omega)) (by omega)
      refine jn_pred (fun z73 => True) (fun z73 h73 => ?_) ?_
      · refine lt_pred (fun s88 e88 => ?_)
        have q88 : Kp ka kb m s88 := by rw [e88]; exact Kp.w (kp_x2_set s66 1 z73 q66 (by omega)) (by omega)
        refine jn_pred (fun z98 => True) (fun z98 h98 => ?_) ?_
        · refine lt_pred (fun s106 e106 => ?_)
          have q106 : Kp ka kb m s106 := by rw [e106]; exact Kp.w (kp_x2_set s88 4 z98 q88 (by omega)) (by omega)
          refine jn_pred (fun z116 => True) (fun z116 h116 => ?_) ?_
          · refine lt_pred (fun s124 e124 => ?_)
            have q124 : Kp ka kb m s124 := by rw [e124]; exact Kp.w (kp_x2_set s106 2 z116 q106 (by omega)) (by omega)
            refine jn_pred (fun z132 => True) (fun z132 h132 => ?_) ?_
            · refine jn_pred (fun z155 => True) (fun z155 h155 => ?_) ?_
              · refine lt_pred (fun s163 e163 => ?_)
                have q163 : Kp ka kb m s163 := by rw [e163]; exact Kp.w (kp_x2_set s124 8 z155 q124 (by omega)) (by omega)
                refine jn_pred (fun z180 => True) (fun z180 h180 => ?_) ?_
                · refine lt_pred (fun s188 e188 => ?_)
                  have q188 : Kp ka kb m s188 := by rw [e188]; exact Kp.w (kp_x2_set s163 16 z180 q163 (by omega)) (by omega)
                  exact Kp.w q188 (by omega)
                · refine ite_pred (fun c180 => ?_) (fun c180 => ?_)
                  · exact app_i trivial
                  · exact app_i trivial
              · refine ite_pred (fun c155 => ?_) (fun c155 => ?_)
                · exact app_i trivial
                · exact app_i trivial
            · refine ite_pred (fun c132 => ?_) (fun c132 => ?_)
              · exact app_i trivial
              · exact app_i trivial
          · refine ite_pred (fun c116 => ?_) (fun c116 => ?_)
            · exact app_i trivial
            · exact app_i trivial
        · refine ite_pred (fun c98 => ?_) (fun c98 => ?_)
          · exact app_i trivial
          · exact app_i trivial
      · refine ite_pred (fun c73 => ?_) (fun c73 => ?_)
        · exact app_i trivial
        · exact app_i trivial
    · refine ite_pred (fun c46 => ?_) (fun c46 => ?_)
      · exact app_i trivial
      · exact app_i trivial
  · refine ite_pred (fun c34 => ?_) (fun c34 => ?_)
    · exact app_i trivial
    · exact app_i trivial

def x2_shifted (σ : Sg) (x1 : Int32) (x2 : Int32) : Sg :=
  lt ((σ 1 (x1).toNatClampNeg) : Int32) fun v6 =>
  lt ((
    if x2 = 5 then
      (v6 &&& 128)
    else
      if (¬ (x2 = 7)) ∨ ((x2_is σ 1) = 0) then
        0
      else
        128) : Int32) fun z9 =>
  lt ((z9 ||| (v6 >>> (1 : Int32))) : Int32) fun v49 =>
  lt ((
    if (v6 &&& 1) = 0 then
      0
    else
      1) : Int32) fun z56 =>
  lt (x2_set σ 1 z56) fun s64 =>
  lt ((
    if (v49 &&& 128) = 0 then
      0
    else
      1) : Int32) fun z76 =>
  lt ((
    if (v6 &&& 1) = 0 then
      0
    else
      1) : Int32) fun z87 =>
  lt ((
    if z76 = z87 then
      0
    else
      1) : Int32) fun z95 =>
  lt (x2_by s64 v49 z95) fun s103 =>
  lt (sst s103 1 (x1).toNatClampNeg v49) fun s113 =>
  s113
set_option maxHeartbeats 4000000 in
theorem ok_x2_shifted (σ : Sg) (x1 : Int32) (x2 : Int32) (ok : XOK σ) (hx1 : rg 0 31 x1) : XOK (x2_shifted σ x1 x2) := by
  unfold x2_shifted
  refine lt_pred (fun v6 e6 => ?_)
  have f6 : rg 0 255 v6 := by rw [e6]; exact (xr_1 ok _)
  refine jn_pred (fun z9 => rg 0 128 z9) (fun z9 h9 => ?_) ?_
  · refine lt_pred (fun v49 e49 => ?_)
    have f49 : rg 0 255 v49 := by rw [e49]; exact (rg_or 8 h9 (rg_shr 1 (by decide +kernel) f6) (by decide) (by decide) (by decide))
    refine jn_pred (fun z56 => rg 0 1 z56) (fun z56 h56 => ?_) ?_
    · refine lt_pred (fun s64 e64 => ?_)
      have k64 : XOK s64 := by rw [e64]; exact ok_x2_set σ 1 z56 ok (rg_w rl_1 (by decide) (by decide)) h56
      refine jn_pred (fun z76 => rg 0 1 z76) (fun z76 h76 => ?_) ?_
      · refine jn_pred (fun z87 => rg 0 1 z87) (fun z87 h87 => ?_) ?_
        · refine jn_pred (fun z95 => rg 0 1 z95) (fun z95 h95 => ?_) ?_
          · refine lt_pred (fun s103 e103 => ?_)
            have k103 : XOK s103 := by rw [e103]; exact ok_x2_by s64 v49 z95 k64 h95
            refine lt_pred (fun s113 e113 => ?_)
            have k113 : XOK s113 := by rw [e113]; exact xst_1 k103 f49
            exact k113
          · refine ite_pred (fun c95 => ?_) (fun c95 => ?_)
            · exact app_i (rg_w rl_0 (by decide) (by decide))
            · exact app_i (rg_w rl_1 (by decide) (by decide))
        · refine ite_pred (fun c87 => ?_) (fun c87 => ?_)
          · exact app_i (rg_w rl_0 (by decide) (by decide))
          · exact app_i (rg_w rl_1 (by decide) (by decide))
      · refine ite_pred (fun c76 => ?_) (fun c76 => ?_)
        · exact app_i (rg_w rl_0 (by decide) (by decide))
        · exact app_i (rg_w rl_1 (by decide) (by decide))
    · refine ite_pred (fun c56 => ?_) (fun c56 => ?_)
      · exact app_i (rg_w rl_0 (by decide) (by decide))
      · exact app_i (rg_w rl_1 (by decide) (by decide))
  · refine ite_pred (fun c9 => ?_) (fun c9 => ?_)
    · exact app_i (rg_and_r (rg_w (lo2 := 0) rl_128 (by decide) (Int.le_refl _)))
    · refine ite_pred (fun c23 => ?_) (fun c23 => ?_)
      · exact app_i (rg_w rl_0 (by decide) (by decide))
      · exact app_i (rg_w rl_128 (by decide) (by decide))

set_option maxHeartbeats 4000000 in
theorem kp_x2_shifted (σ : Sg) (x1 : Int32) (x2 : Int32) {ka kb : Int32} {m : Int} (hk : Kp ka kb m σ) (hm : m ≤ 1500270000) : Kp ka kb m (x2_shifted σ x1 x2) := by
  have hm0 : 0 ≤ m := hk.nn
  show Kp ka kb m (x2_shifted σ x1 x2)
  unfold x2_shifted
  refine lt_pred (fun v6 e6 => ?_)
  refine jn_pred (fun z9 => True) (fun z9 h9 => ?_) ?_
  · refine lt_pred (fun v49 e49 => ?_)
    refine jn_pred (fun z56 => True) (fun z56 h56 => ?_) ?_
    · refine lt_pred (fun s64 e64 => ?_)
      have q64 : Kp ka kb m s64 := by rw [e64]; exact Kp.w (kp_x2_set σ 1 z56 hk (by omega)) (by omega)
      refine jn_pred (fun z76 => True) (fun z76 h76 => ?_) ?_
      · refine jn_pred (fun z87 => True) (fun z87 h87 => ?_) ?_
        · refine jn_pred (fun z95 => True) (fun z95 h95 => ?_) ?_
          · refine lt_pred (fun s103 e103 => ?_)
            have q103 : Kp ka kb m s103 := by rw [e103]; exact Kp.w (kp_x2_by s64 v49 z95 q64 (by omega)) (by omega)
            refine lt_pred (fun s113 e113 => ?_)
            have q113 : Kp ka kb m s113 := by rw [e113]; exact Kp.same q103 rfl rfl rfl
            exact Kp.w q113 (by omega)
          · refine ite_pred (fun c95 => ?_) (fun c95 => ?_)
            · exact app_i trivial
            · exact app_i trivial
        · refine ite_pred (fun c87 => ?_) (fun c87 => ?_)
          · exact app_i trivial
          · exact app_i trivial
      · refine ite_pred (fun c76 => ?_) (fun c76 => ?_)
        · exact app_i trivial
        · exact app_i trivial
    · refine ite_pred (fun c56 => ?_) (fun c56 => ?_)
      · exact app_i trivial
      · exact app_i trivial
  · refine ite_pred (fun c9 => ?_) (fun c9 => ?_)
    · exact app_i trivial
    · refine ite_pred (fun c23 => ?_) (fun c23 => ?_)
      · exact app_i trivial
      · exact app_i trivial

def x2_indirect (σ : Sg) (x1 : Int32) : Int32 × Sg :=
  if (x1 = 37897) ∨ (x1 = 38153) then
    lt ((
      if x1 = 38153 then
        lt (x2_pushPlace σ) fun s24 =>
        s24
      else
        σ) : Sg) fun z20 =>
    lt (x2_go z20 (x2_pair z20 30)) fun s34 =>
    lt ((
      if x1 = 38153 then
        3
      else
        2) : Int32) fun z41 =>
    (z41, s34)
  else
    (1, σ)
set_option maxHeartbeats 4000000 in
theorem ok_x2_indirect (σ : Sg) (x1 : Int32) (ok : XOK σ) : (Pri XOK 1 3) (x2_indirect σ x1) := by
  unfold x2_indirect
  refine ite_pred (fun c4 => ?_) (fun c4 => ?_)
  · refine jn_pred (fun z20 => XOK z20) (fun z20 h20 => ?_) ?_
    · refine lt_pred (fun s34 e34 => ?_)
      have k34 : XOK s34 := by rw [e34]; exact ok_x2_go z20 (x2_pair z20 30) h20
      refine jn_pred (fun z41 => rg 2 3 z41) (fun z41 h41 => ?_) ?_
      · exact ⟨k34, (rg_w h41 (by decide) (by decide))⟩
      · refine ite_pred (fun c41 => ?_) (fun c41 => ?_)
        · exact app_i (rg_w rl_3 (by decide) (by decide))
        · exact app_i (rg_w rl_2 (by decide) (by decide))
    · refine ite_pred (fun c20 => ?_) (fun c20 => ?_)
      · refine lt_pred (fun s24 e24 => ?_)
        have k24 : XOK s24 := by rw [e24]; exact ok_x2_pushPlace σ ok
        exact app_i k24
      · exact app_i ok
  · exact ⟨ok, (rg_w rl_1 (by decide) (by decide))⟩

set_option maxHeartbeats 4000000 in
theorem kp_x2_indirect (σ : Sg) (x1 : Int32) {ka kb : Int32} {m : Int} (hk : Kp ka kb m σ) (hm : m ≤ 1500250000) : Kp ka kb (m + 8) (x2_indirect σ x1).2 := by
  have hm0 : 0 ≤ m := hk.nn
  show Kpi ka kb (m + 8) (x2_indirect σ x1)
  unfold x2_indirect
  refine ite_pred (fun c4 => ?_) (fun c4 => ?_)
  · refine jn_pred (fun z20 => Kp ka kb (m + 8) z20) (fun z20 h20 => ?_) ?_
    · refine lt_pred (fun s34 e34 => ?_)
      have q34 : Kp ka kb (m + 8) s34 := by rw [e34]; exact Kp.w (kp_x2_go z20 (x2_pair z20 30) h20 (by omega)) (by omega)
      refine jn_pred (fun z41 => True) (fun z41 h41 => ?_) ?_
      · exact Kp.w q34 (by omega)
      · refine ite_pred (fun c41 => ?_) (fun c41 => ?_)
        · exact app_i trivial
        · exact app_i trivial
    · refine ite_pred (fun c20 => ?_) (fun c20 => ?_)
      · refine lt_pred (fun s24 e24 => ?_)
        have q24 : Kp ka kb (m + 8) s24 := by rw [e24]; exact Kp.w (kp_x2_pushPlace σ hk (by omega)) (by omega)
        exact app_i (Kp.w q24 (by omega))
      · exact app_i (Kp.w hk (by omega))
  · exact Kp.w hk (by omega)

def x2_alone (σ : Sg) (x1 : Int32) (x2 : Int32) : Int32 × Sg :=
  if x1 < 38144 then
    lt ((
      if (x1 &&& 128) = 0 then
        1
      else
        0) : Int32) fun z21 =>
    lt (x2_set σ ((1 : Int32) <<< (((x1 >>> (4 : Int32)) &&& 7) &&& 31)) z21) fun s29 =>
    lt ((
      if x1 = 38008 then
        1
      else
        0) : Int32) fun z37 =>
    lt (sst s29 0 7 z37) fun s45 =>
    (1, s45)
  else
    lt (((x1 >>> (4 : Int32)) &&& 15) : Int32) fun v56 =>
    if v56 = 0 then
      lt (x2_popPlace σ) fun s133 =>
      (4, s133)
    else
      if v56 = 1 then
        lt (x2_popPlace σ) fun s139 =>
        lt (x2_set s139 128 1) fun s147 =>
        lt (sst s147 0 7 1) fun s152 =>
        (4, s152)
      else
        if v56 = 8 then
          lt (sst σ 0 6 1) fun s159 =>
          (1, s159)
        else
          if v56 = 10 then
            lt (sst σ 0 24 0) fun s169 =>
            (1, s169)
          else
            if v56 = 12 then
              lt (x10_read σ (x2_pair σ 30) x2) fun z190 =>
              lt (sst z190.2 1 0 z190.1) fun s193 =>
              (3, s193)
            else
              if v56 = 14 then
                lt (x10_stores σ (x2_pair σ 30) x2) fun s207 =>
                (1, s207)
              else
                (1, σ)
set_option maxHeartbeats 4000000 in
theorem ok_x2_alone (σ : Sg) (x1 : Int32) (x2 : Int32) (ok : XOK σ) (hx2 : rg 0 1 x2) : (Pri XOK 1 4) (x2_alone σ x1 x2) := by
  unfold x2_alone
  refine ite_pred (fun c4 => ?_) (fun c4 => ?_)
  · refine jn_pred (fun z21 => rg 0 1 z21) (fun z21 h21 => ?_) ?_
    · refine lt_pred (fun s29 e29 => ?_)
      have k29 : XOK s29 := by rw [e29]; exact ok_x2_set σ ((1 : Int32) <<< (((x1 >>> (4 : Int32)) &&& 7) &&& 31)) z21 ok (rg_bit (rg_and_r (rg_w (lo2 := 0) rl_7 (by decide) (Int.le_refl _))) (by decide)) h21
      refine jn_pred (fun z37 => rg 0 1 z37) (fun z37 h37 => ?_) ?_
      · refine lt_pred (fun s45 e45 => ?_)
        have k45 : XOK s45 := by rw [e45]; exact xst_0_7 k29 h37
        exact ⟨k45, (rg_w rl_1 (by decide) (by decide))⟩
      · refine ite_pred (fun c37 => ?_) (fun c37 => ?_)
        · exact app_i (rg_w rl_1 (by decide) (by decide))
        · exact app_i (rg_w rl_0 (by decide) (by decide))
    · refine ite_pred (fun c21 => ?_) (fun c21 => ?_)
      · exact app_i (rg_w rl_1 (by decide) (by decide))
      · exact app_i (rg_w rl_0 (by decide) (by decide))
  · refine lt_pred (fun v56 e56 => ?_)
    have f56 : rg 0 15 v56 := by rw [e56]; exact (rg_and_r (rg_w (lo2 := 0) rl_15 (by decide) (Int.le_refl _)))
    refine ite_pred (fun c56_0 => ?_) (fun c56_0 => ?_)
    · refine lt_pred (fun s133 e133 => ?_)
      have k133 : XOK s133 := by rw [e133]; exact ok_x2_popPlace σ ok
      exact ⟨k133, (rg_w rl_4 (by decide) (by decide))⟩
    · refine ite_pred (fun c56_1 => ?_) (fun c56_1 => ?_)
      · refine lt_pred (fun s139 e139 => ?_)
        have k139 : XOK s139 := by rw [e139]; exact ok_x2_popPlace σ ok
        refine lt_pred (fun s147 e147 => ?_)
        have k147 : XOK s147 := by rw [e147]; exact ok_x2_set s139 128 1 k139 (rg_w rl_128 (by decide) (by decide)) (rg_w rl_1 (by decide) (by decide))
        refine lt_pred (fun s152 e152 => ?_)
        have k152 : XOK s152 := by rw [e152]; exact xst_0_7 k147 (rg_w rl_1 (by decide) (by decide))
        exact ⟨k152, (rg_w rl_4 (by decide) (by decide))⟩
      · refine ite_pred (fun c56_8 => ?_) (fun c56_8 => ?_)
        · refine lt_pred (fun s159 e159 => ?_)
          have k159 : XOK s159 := by rw [e159]; exact xst_0_6 ok (rg_w rl_1 (by decide) (by decide))
          exact ⟨k159, (rg_w rl_1 (by decide) (by decide))⟩
        · refine ite_pred (fun c56_10 => ?_) (fun c56_10 => ?_)
          · refine lt_pred (fun s169 e169 => ?_)
            have k169 : XOK s169 := by rw [e169]; exact xst_f0_24 ok
            exact ⟨k169, (rg_w rl_1 (by decide) (by decide))⟩
          · refine ite_pred (fun c56_12 => ?_) (fun c56_12 => ?_)
            · refine lt_pred (fun z190 e190 => ?_)
              have k190 : XOK z190.2 ∧ rg 0 255 z190.1 := by rw [e190]; exact ok_x10_read σ (x2_pair σ 30) x2 ok hx2
              refine lt_pred (fun s193 e193 => ?_)
              have k193 : XOK s193 := by rw [e193]; exact xst_1 k190.1 k190.2
              exact ⟨k193, (rg_w rl_3 (by decide) (by decide))⟩
            · refine ite_pred (fun c56_14 => ?_) (fun c56_14 => ?_)
              · refine lt_pred (fun s207 e207 => ?_)
                have k207 : XOK s207 := by rw [e207]; exact ok_x10_stores σ (x2_pair σ 30) x2 ok hx2
                exact ⟨k207, (rg_w rl_1 (by decide) (by decide))⟩
              · exact ⟨ok, (rg_w rl_1 (by decide) (by decide))⟩

set_option maxHeartbeats 4000000 in
theorem kp_x2_alone (σ : Sg) (x1 : Int32) (x2 : Int32) {ka kb : Int32} {m : Int} (hk : Kp ka kb m σ) (hm : m ≤ 1500240000) : Kp ka kb (m + 8000) (x2_alone σ x1 x2).2 := by
  have hm0 : 0 ≤ m := hk.nn
  show Kpi ka kb (m + 8000) (x2_alone σ x1 x2)
  unfold x2_alone
  refine ite_pred (fun c4 => ?_) (fun c4 => ?_)
  · refine jn_pred (fun z21 => True) (fun z21 h21 => ?_) ?_
    · refine lt_pred (fun s29 e29 => ?_)
      have q29 : Kp ka kb m s29 := by rw [e29]; exact Kp.w (kp_x2_set σ ((1 : Int32) <<< (((x1 >>> (4 : Int32)) &&& 7) &&& 31)) z21 hk (by omega)) (by omega)
      refine jn_pred (fun z37 => True) (fun z37 h37 => ?_) ?_
      · refine lt_pred (fun s45 e45 => ?_)
        have q45 : Kp ka kb m s45 := by rw [e45]; exact Kp.same q29 rfl rfl rfl
        exact Kp.w q45 (by omega)
      · refine ite_pred (fun c37 => ?_) (fun c37 => ?_)
        · exact app_i trivial
        · exact app_i trivial
    · refine ite_pred (fun c21 => ?_) (fun c21 => ?_)
      · exact app_i trivial
      · exact app_i trivial
  · refine lt_pred (fun v56 e56 => ?_)
    refine ite_pred (fun c56_0 => ?_) (fun c56_0 => ?_)
    · refine lt_pred (fun s133 e133 => ?_)
      have q133 : Kp ka kb m s133 := by rw [e133]; exact Kp.w (kp_x2_popPlace σ hk (by omega)) (by omega)
      exact Kp.w q133 (by omega)
    · refine ite_pred (fun c56_1 => ?_) (fun c56_1 => ?_)
      · refine lt_pred (fun s139 e139 => ?_)
        have q139 : Kp ka kb m s139 := by rw [e139]; exact Kp.w (kp_x2_popPlace σ hk (by omega)) (by omega)
        refine lt_pred (fun s147 e147 => ?_)
        have q147 : Kp ka kb m s147 := by rw [e147]; exact Kp.w (kp_x2_set s139 128 1 q139 (by omega)) (by omega)
        refine lt_pred (fun s152 e152 => ?_)
        have q152 : Kp ka kb m s152 := by rw [e152]; exact Kp.same q147 rfl rfl rfl
        exact Kp.w q152 (by omega)
      · refine ite_pred (fun c56_8 => ?_) (fun c56_8 => ?_)
        · refine lt_pred (fun s159 e159 => ?_)
          have q159 : Kp ka kb m s159 := by rw [e159]; exact Kp.same hk rfl rfl rfl
          exact Kp.w q159 (by omega)
        · refine ite_pred (fun c56_10 => ?_) (fun c56_10 => ?_)
          · refine lt_pred (fun s169 e169 => ?_)
            have q169 : Kp ka kb m s169 := by rw [e169]; exact Kp.same hk rfl rfl rfl
            exact Kp.w q169 (by omega)
          · refine ite_pred (fun c56_12 => ?_) (fun c56_12 => ?_)
            · refine lt_pred (fun z190 e190 => ?_)
              have q190 : Kp ka kb m z190.2 := by rw [e190]; exact Kp.w (kp_x10_read σ (x2_pair σ 30) x2 hk (by omega)) (by omega)
              refine lt_pred (fun s193 e193 => ?_)
              have q193 : Kp ka kb m s193 := by rw [e193]; exact Kp.same q190 rfl rfl rfl
              exact Kp.w q193 (by omega)
            · refine ite_pred (fun c56_14 => ?_) (fun c56_14 => ?_)
              · refine lt_pred (fun s207 e207 => ?_)
                have q207 : Kp ka kb (m + 8000) s207 := by rw [e207]; exact Kp.w (kp_x10_stores σ (x2_pair σ 30) x2 hk (by omega)) (by omega)
                exact Kp.w q207 (by omega)
              · exact Kp.w hk (by omega)

def x2_one (σ : Sg) (x1 : Int32) (x2 : Int32) : Int32 × Sg :=
  lt (((x1 >>> (4 : Int32)) &&& 31) : Int32) fun v6 =>
  lt ((σ 1 (v6).toNatClampNeg) : Int32) fun v13 =>
  lt ((x1 &&& 15) : Int32) fun v19 =>
  if v19 = 0 then
    lt (x2_logic σ (255 - v13)) fun z108 =>
    lt (sst z108.2 1 (v6).toNatClampNeg z108.1) fun s111 =>
    lt (x2_set s111 1 1) fun s115 =>
    (1, s115)
  else
    if v19 = 1 then
      lt (x2_taken σ 0 v13 0) fun z130 =>
      lt (sst z130.2 1 (v6).toNatClampNeg z130.1) fun s133 =>
      (1, s133)
    else
      if v19 = 2 then
        lt (sst σ 1 (v6).toNatClampNeg (((v13 <<< (4 : Int32)) &&& 240) ||| (v13 >>> (4 : Int32)))) fun s154 =>
        (1, s154)
      else
        if v19 = 3 then
          lt ((
            if v13 = 127 then
              1
            else
              0) : Int32) fun z166 =>
          lt (x2_by σ (v13 + 1) z166) fun s174 =>
          lt (sst s174 1 (v6).toNatClampNeg ((v13 + 1) &&& 255)) fun s190 =>
          (1, s190)
        else
          if ((v19 = 5) ∨ (v19 = 6)) ∨ (v19 = 7) then
            lt (x2_shifted σ v6 (x1 &&& 15)) fun s236 =>
            (1, s236)
          else
            if v19 = 8 then
              lt (x2_alone σ x1 x2) fun z244 =>
              (z244.1, z244.2)
            else
              if v19 = 9 then
                lt (x2_indirect σ x1) fun z250 =>
                (z250.1, z250.2)
              else
                if v19 = 10 then
                  lt ((
                    if v13 = 128 then
                      1
                    else
                      0) : Int32) fun z203 =>
                  lt (x2_by σ (v13 - 1) z203) fun s211 =>
                  lt (sst s211 1 (v6).toNatClampNeg ((v13 - 1) &&& 255)) fun s227 =>
                  (1, s227)
                else
                  if (((v19 = 12) ∨ (v19 = 13)) ∨ (v19 = 14)) ∨ (v19 = 15) then
                    lt (x2_next σ) fun z255 =>
                    lt ((
                      if (x1 &&& 2) = 0 then
                        z255.2
                      else
                        lt (x2_pushPlace z255.2) fun s267 =>
                        s267) : Sg) fun z263 =>
                    lt (x2_go z263 z255.1) fun s273 =>
                    lt ((
                      if (x1 &&& 2) = 0 then
                        3
                      else
                        4) : Int32) fun z279 =>
                    (z279, s273)
                  else
                    (1, σ)
set_option maxHeartbeats 4000000 in
theorem ok_x2_one (σ : Sg) (x1 : Int32) (x2 : Int32) (ok : XOK σ) (hx2 : rg 0 1 x2) : (Pri XOK 1 4) (x2_one σ x1 x2) := by
  unfold x2_one
  refine lt_pred (fun v6 e6 => ?_)
  have f6 : rg 0 31 v6 := by rw [e6]; exact (rg_and_r (rg_w (lo2 := 0) rl_31 (by decide) (Int.le_refl _)))
  refine lt_pred (fun v13 e13 => ?_)
  have f13 : rg 0 255 v13 := by rw [e13]; exact (xr_1 ok _)
  refine lt_pred (fun v19 e19 => ?_)
  have f19 : rg 0 15 v19 := by rw [e19]; exact (rg_and_r (rg_w (lo2 := 0) rl_15 (by decide) (Int.le_refl _)))
  refine ite_pred (fun c19_0 => ?_) (fun c19_0 => ?_)
  · refine lt_pred (fun z108 e108 => ?_)
    have k108 : XOK z108.2 ∧ rg 0 255 z108.1 := by rw [e108]; exact ok_x2_logic σ (255 - v13) ok
    refine lt_pred (fun s111 e111 => ?_)
    have k111 : XOK s111 := by rw [e111]; exact xst_1 k108.1 k108.2
    refine lt_pred (fun s115 e115 => ?_)
    have k115 : XOK s115 := by rw [e115]; exact ok_x2_set s111 1 1 k111 (rg_w rl_1 (by decide) (by decide)) (rg_w rl_1 (by decide) (by decide))
    exact ⟨k115, (rg_w rl_1 (by decide) (by decide))⟩
  · refine ite_pred (fun c19_1 => ?_) (fun c19_1 => ?_)
    · refine lt_pred (fun z130 e130 => ?_)
      have k130 : XOK z130.2 ∧ rg 0 255 z130.1 := by rw [e130]; exact ok_x2_taken σ 0 v13 0 ok
      refine lt_pred (fun s133 e133 => ?_)
      have k133 : XOK s133 := by rw [e133]; exact xst_1 k130.1 k130.2
      exact ⟨k133, (rg_w rl_1 (by decide) (by decide))⟩
    · refine ite_pred (fun c19_2 => ?_) (fun c19_2 => ?_)
      · refine lt_pred (fun s154 e154 => ?_)
        have k154 : XOK s154 := by rw [e154]; exact xst_1 ok (rg_or 8 (rg_and_r (rg_w (lo2 := 0) rl_240 (by decide) (Int.le_refl _))) (rg_shr 4 (by decide +kernel) f13) (by decide) (by decide) (by decide))
        exact ⟨k154, (rg_w rl_1 (by decide) (by decide))⟩
      · refine ite_pred (fun c19_3 => ?_) (fun c19_3 => ?_)
        · refine jn_pred (fun z166 => rg 0 1 z166) (fun z166 h166 => ?_) ?_
          · refine lt_pred (fun s174 e174 => ?_)
            have k174 : XOK s174 := by rw [e174]; exact ok_x2_by σ (v13 + 1) z166 ok h166
            refine lt_pred (fun s190 e190 => ?_)
            have k190 : XOK s190 := by rw [e190]; exact xst_1 k174 (rg_and_r (rg_w (lo2 := 0) rl_255 (by decide) (Int.le_refl _)))
            exact ⟨k190, (rg_w rl_1 (by decide) (by decide))⟩
          · refine ite_pred (fun c166 => ?_) (fun c166 => ?_)
            · exact app_i (rg_w rl_1 (by decide) (by decide))
            · exact app_i (rg_w rl_0 (by decide) (by decide))
        · refine ite_pred (fun c19_5 => ?_) (fun c19_5 => ?_)
          · refine lt_pred (fun s236 e236 => ?_)
            have k236 : XOK s236 := by rw [e236]; exact ok_x2_shifted σ v6 (x1 &&& 15) ok f6
            exact ⟨k236, (rg_w rl_1 (by decide) (by decide))⟩
          · have n19_5 : ¬ v19 = 5 := (fun q => c19_5 (Or.inl (Or.inl q)))
            have n19_6 : ¬ v19 = 6 := (fun q => c19_5 (Or.inl (Or.inr q)))
            have n19_7 : ¬ v19 = 7 := (fun q => c19_5 (Or.inr q))
            refine ite_pred (fun c19_8 => ?_) (fun c19_8 => ?_)
            · refine lt_pred (fun z244 e244 => ?_)
              have k244 : XOK z244.2 ∧ rg 1 4 z244.1 := by rw [e244]; exact ok_x2_alone σ x1 x2 ok hx2
              exact ⟨k244.1, k244.2⟩
            · refine ite_pred (fun c19_9 => ?_) (fun c19_9 => ?_)
              · refine lt_pred (fun z250 e250 => ?_)
                have k250 : XOK z250.2 ∧ rg 1 3 z250.1 := by rw [e250]; exact ok_x2_indirect σ x1 ok
                exact ⟨k250.1, (rg_w k250.2 (by decide) (by decide))⟩
              · refine ite_pred (fun c19_10 => ?_) (fun c19_10 => ?_)
                · refine jn_pred (fun z203 => rg 0 1 z203) (fun z203 h203 => ?_) ?_
                  · refine lt_pred (fun s211 e211 => ?_)
                    have k211 : XOK s211 := by rw [e211]; exact ok_x2_by σ (v13 - 1) z203 ok h203
                    refine lt_pred (fun s227 e227 => ?_)
                    have k227 : XOK s227 := by rw [e227]; exact xst_1 k211 (rg_and_r (rg_w (lo2 := 0) rl_255 (by decide) (Int.le_refl _)))
                    exact ⟨k227, (rg_w rl_1 (by decide) (by decide))⟩
                  · refine ite_pred (fun c203 => ?_) (fun c203 => ?_)
                    · exact app_i (rg_w rl_1 (by decide) (by decide))
                    · exact app_i (rg_w rl_0 (by decide) (by decide))
                · refine ite_pred (fun c19_12 => ?_) (fun c19_12 => ?_)
                  · refine lt_pred (fun z255 e255 => ?_)
                    have k255 : XOK z255.2 ∧ rg 0 65535 z255.1 := by rw [e255]; exact ok_x2_next σ ok
                    refine jn_pred (fun z263 => XOK z263) (fun z263 h263 => ?_) ?_
                    · refine lt_pred (fun s273 e273 => ?_)
                      have k273 : XOK s273 := by rw [e273]; exact ok_x2_go z263 z255.1 h263
                      refine jn_pred (fun z279 => rg 3 4 z279) (fun z279 h279 => ?_) ?_
                      · exact ⟨k273, (rg_w h279 (by decide) (by decide))⟩
                      · refine ite_pred (fun c279 => ?_) (fun c279 => ?_)
                        · exact app_i (rg_w rl_3 (by decide) (by decide))
                        · exact app_i (rg_w rl_4 (by decide) (by decide))
                    · refine ite_pred (fun c263 => ?_) (fun c263 => ?_)
                      · exact app_i k255.1
                      · refine lt_pred (fun s267 e267 => ?_)
                        have k267 : XOK s267 := by rw [e267]; exact ok_x2_pushPlace z255.2 k255.1
                        exact app_i k267
                  · have n19_12 : ¬ v19 = 12 := (fun q => c19_12 (Or.inl (Or.inl (Or.inl q))))
                    have n19_13 : ¬ v19 = 13 := (fun q => c19_12 (Or.inl (Or.inl (Or.inr q))))
                    have n19_14 : ¬ v19 = 14 := (fun q => c19_12 (Or.inl (Or.inr q)))
                    have n19_15 : ¬ v19 = 15 := (fun q => c19_12 (Or.inr q))
                    exact ⟨ok, (rg_w rl_1 (by decide) (by decide))⟩

set_option maxHeartbeats 4000000 in
theorem kp_x2_one (σ : Sg) (x1 : Int32) (x2 : Int32) {ka kb : Int32} {m : Int} (hk : Kp ka kb m σ) (hm : m ≤ 1500230000) : Kp ka kb (m + 8000) (x2_one σ x1 x2).2 := by
  have hm0 : 0 ≤ m := hk.nn
  show Kpi ka kb (m + 8000) (x2_one σ x1 x2)
  unfold x2_one
  refine lt_pred (fun v6 e6 => ?_)
  refine lt_pred (fun v13 e13 => ?_)
  refine lt_pred (fun v19 e19 => ?_)
  refine ite_pred (fun c19_0 => ?_) (fun c19_0 => ?_)
  · refine lt_pred (fun z108 e108 => ?_)
    have q108 : Kp ka kb m z108.2 := by rw [e108]; exact Kp.w (kp_x2_logic σ (255 - v13) hk (by omega)) (by omega)
    refine lt_pred (fun s111 e111 => ?_)
    have q111 : Kp ka kb m s111 := by rw [e111]; exact Kp.same q108 rfl rfl rfl
    refine lt_pred (fun s115 e115 => ?_)
    have q115 : Kp ka kb m s115 := by rw [e115]; exact Kp.w (kp_x2_set s111 1 1 q111 (by omega)) (by omega)
    exact Kp.w q115 (by omega)
  · refine ite_pred (fun c19_1 => ?_) (fun c19_1 => ?_)
    · refine lt_pred (fun z130 e130 => ?_)
      have q130 : Kp ka kb m z130.2 := by rw [e130]; exact Kp.w (kp_x2_taken σ 0 v13 0 hk (by omega)) (by omega)
      refine lt_pred (fun s133 e133 => ?_)
      have q133 : Kp ka kb m s133 := by rw [e133]; exact Kp.same q130 rfl rfl rfl
      exact Kp.w q133 (by omega)
    · refine ite_pred (fun c19_2 => ?_) (fun c19_2 => ?_)
      · refine lt_pred (fun s154 e154 => ?_)
        have q154 : Kp ka kb m s154 := by rw [e154]; exact Kp.same hk rfl rfl rfl
        exact Kp.w q154 (by omega)
      · refine ite_pred (fun c19_3 => ?_) (fun c19_3 => ?_)
        · refine jn_pred (fun z166 => True) (fun z166 h166 => ?_) ?_
          · refine lt_pred (fun s174 e174 => ?_)
            have q174 : Kp ka kb m s174 := by rw [e174]; exact Kp.w (kp_x2_by σ (v13 + 1) z166 hk (by omega)) (by omega)
            refine lt_pred (fun s190 e190 => ?_)
            have q190 : Kp ka kb m s190 := by rw [e190]; exact Kp.same q174 rfl rfl rfl
            exact Kp.w q190 (by omega)
          · refine ite_pred (fun c166 => ?_) (fun c166 => ?_)
            · exact app_i trivial
            · exact app_i trivial
        · refine ite_pred (fun c19_5 => ?_) (fun c19_5 => ?_)
          · refine lt_pred (fun s236 e236 => ?_)
            have q236 : Kp ka kb m s236 := by rw [e236]; exact Kp.w (kp_x2_shifted σ v6 (x1 &&& 15) hk (by omega)) (by omega)
            exact Kp.w q236 (by omega)
          · refine ite_pred (fun c19_8 => ?_) (fun c19_8 => ?_)
            · refine lt_pred (fun z244 e244 => ?_)
              have q244 : Kp ka kb (m + 8000) z244.2 := by rw [e244]; exact Kp.w (kp_x2_alone σ x1 x2 hk (by omega)) (by omega)
              exact Kp.w q244 (by omega)
            · refine ite_pred (fun c19_9 => ?_) (fun c19_9 => ?_)
              · refine lt_pred (fun z250 e250 => ?_)
                have q250 : Kp ka kb (m + 8) z250.2 := by rw [e250]; exact Kp.w (kp_x2_indirect σ x1 hk (by omega)) (by omega)
                exact Kp.w q250 (by omega)
              · refine ite_pred (fun c19_10 => ?_) (fun c19_10 => ?_)
                · refine jn_pred (fun z203 => True) (fun z203 h203 => ?_) ?_
                  · refine lt_pred (fun s211 e211 => ?_)
                    have q211 : Kp ka kb m s211 := by rw [e211]; exact Kp.w (kp_x2_by σ (v13 - 1) z203 hk (by omega)) (by omega)
                    refine lt_pred (fun s227 e227 => ?_)
                    have q227 : Kp ka kb m s227 := by rw [e227]; exact Kp.same q211 rfl rfl rfl
                    exact Kp.w q227 (by omega)
                  · refine ite_pred (fun c203 => ?_) (fun c203 => ?_)
                    · exact app_i trivial
                    · exact app_i trivial
                · refine ite_pred (fun c19_12 => ?_) (fun c19_12 => ?_)
                  · refine lt_pred (fun z255 e255 => ?_)
                    have q255 : Kp ka kb m z255.2 := by rw [e255]; exact Kp.w (kp_x2_next σ hk (by omega)) (by omega)
                    refine jn_pred (fun z263 => Kp ka kb (m + 8) z263) (fun z263 h263 => ?_) ?_
                    · refine lt_pred (fun s273 e273 => ?_)
                      have q273 : Kp ka kb (m + 8) s273 := by rw [e273]; exact Kp.w (kp_x2_go z263 z255.1 h263 (by omega)) (by omega)
                      refine jn_pred (fun z279 => True) (fun z279 h279 => ?_) ?_
                      · exact Kp.w q273 (by omega)
                      · refine ite_pred (fun c279 => ?_) (fun c279 => ?_)
                        · exact app_i trivial
                        · exact app_i trivial
                    · refine ite_pred (fun c263 => ?_) (fun c263 => ?_)
                      · exact app_i (Kp.w q255 (by omega))
                      · refine lt_pred (fun s267 e267 => ?_)
                        have q267 : Kp ka kb (m + 8) s267 := by rw [e267]; exact Kp.w (kp_x2_pushPlace z255.2 q255 (by omega)) (by omega)
                        exact app_i (Kp.w q267 (by omega))
                  · exact Kp.w hk (by omega)

def x2_bits (σ : Sg) (x1 : Int32) : Int32 × Sg :=
  lt (((((x1 >>> (3 : Int32)) &&& 127) <<< (25 : Int32)) >>> (25 : Int32)) : Int32) fun v12 =>
  lt (((x1 >>> (4 : Int32)) &&& 31) : Int32) fun v19 =>
  lt (((1 : Int32) <<< ((x1 &&& 7) &&& 31)) : Int32) fun v26 =>
  if (x1 &&& 2048) = 0 then
    lt ((
      if (x1 &&& 1024) = 0 then
        1
      else
        0) : Int32) fun z47 =>
    if (x2_is σ v26) = z47 then
      lt (x2_go σ ((σ 0 0) + v12)) fun s67 =>
      (2, s67)
    else
      (1, σ)
  else
    if (x1 &&& 8) = 0 then
      lt (((x1 >>> (9 : Int32)) &&& 3) : Int32) fun v87 =>
      if v87 = 0 then
        lt ((
          if (x2_is σ 64) = 0 then
            ((σ 1 (v19).toNatClampNeg) &&& (v26 ^^^ (-1)))
          else
            ((σ 1 (v19).toNatClampNeg) ||| v26)) : Int32) fun z123 =>
        lt (sst σ 1 (v19).toNatClampNeg z123) fun s149 =>
        (1, s149)
      else
        if v87 = 1 then
          lt ((
            if ((σ 1 (v19).toNatClampNeg) &&& v26) = 0 then
              0
            else
              1) : Int32) fun z164 =>
          lt (x2_set σ 64 z164) fun s172 =>
          (1, s172)
        else
          if v87 = 2 then
            lt ((
              if ((σ 1 (v19).toNatClampNeg) &&& v26) = 0 then
                1
              else
                0) : Int32) fun z187 =>
            lt (x2_skip σ z187) fun z195 =>
            (z195.1, z195.2)
          else
            lt ((
              if ((σ 1 (v19).toNatClampNeg) &&& v26) = 0 then
                0
              else
                1) : Int32) fun z209 =>
            lt (x2_skip σ z209) fun z217 =>
            (z217.1, z217.2)
    else
      (1, σ)
set_option maxHeartbeats 4000000 in
theorem ok_x2_bits (σ : Sg) (x1 : Int32) (ok : XOK σ) : (Pri XOK 1 3) (x2_bits σ x1) := by
  unfold x2_bits
  refine lt_pred (fun v12 e12 => ?_)
  refine lt_pred (fun v19 e19 => ?_)
  have f19 : rg 0 31 v19 := by rw [e19]; exact (rg_and_r (rg_w (lo2 := 0) rl_31 (by decide) (Int.le_refl _)))
  refine lt_pred (fun v26 e26 => ?_)
  have f26 : rg 0 255 v26 := by rw [e26]; exact (rg_bit (rg_and_r (rg_w (lo2 := 0) rl_7 (by decide) (Int.le_refl _))) (by decide))
  refine ite_pred (fun c33 => ?_) (fun c33 => ?_)
  · refine jn_pred (fun z47 => rg 0 1 z47) (fun z47 h47 => ?_) ?_
    · refine ite_pred (fun c55 => ?_) (fun c55 => ?_)
      · refine lt_pred (fun s67 e67 => ?_)
        have k67 : XOK s67 := by rw [e67]; exact ok_x2_go σ ((σ 0 0) + v12) ok
        exact ⟨k67, (rg_w rl_2 (by decide) (by decide))⟩
      · exact ⟨ok, (rg_w rl_1 (by decide) (by decide))⟩
    · refine ite_pred (fun c47 => ?_) (fun c47 => ?_)
      · exact app_i (rg_w rl_1 (by decide) (by decide))
      · exact app_i (rg_w rl_0 (by decide) (by decide))
  · refine ite_pred (fun c76 => ?_) (fun c76 => ?_)
    · refine lt_pred (fun v87 e87 => ?_)
      have f87 : rg 0 3 v87 := by rw [e87]; exact (rg_and_r (rg_w (lo2 := 0) rl_3 (by decide) (Int.le_refl _)))
      refine ite_pred (fun c87_0 => ?_) (fun c87_0 => ?_)
      · refine jn_pred (fun z123 => rg 0 255 z123) (fun z123 h123 => ?_) ?_
        · refine lt_pred (fun s149 e149 => ?_)
          have k149 : XOK s149 := by rw [e149]; exact xst_1 ok h123
          exact ⟨k149, (rg_w rl_1 (by decide) (by decide))⟩
        · refine ite_pred (fun c123 => ?_) (fun c123 => ?_)
          · exact app_i (rg_and_l (xr_1 ok _))
          · exact app_i (rg_or 8 (xr_1 ok _) f26 (by decide) (by decide) (by decide))
      · refine ite_pred (fun c87_1 => ?_) (fun c87_1 => ?_)
        · refine jn_pred (fun z164 => rg 0 1 z164) (fun z164 h164 => ?_) ?_
          · refine lt_pred (fun s172 e172 => ?_)
            have k172 : XOK s172 := by rw [e172]; exact ok_x2_set σ 64 z164 ok (rg_w rl_64 (by decide) (by decide)) h164
            exact ⟨k172, (rg_w rl_1 (by decide) (by decide))⟩
          · refine ite_pred (fun c164 => ?_) (fun c164 => ?_)
            · exact app_i (rg_w rl_0 (by decide) (by decide))
            · exact app_i (rg_w rl_1 (by decide) (by decide))
        · refine ite_pred (fun c87_2 => ?_) (fun c87_2 => ?_)
          · refine jn_pred (fun z187 => rg 0 1 z187) (fun z187 h187 => ?_) ?_
            · refine lt_pred (fun z195 e195 => ?_)
              have k195 : XOK z195.2 ∧ rg 1 3 z195.1 := by rw [e195]; exact ok_x2_skip σ z187 ok h187
              exact ⟨k195.1, k195.2⟩
            · refine ite_pred (fun c187 => ?_) (fun c187 => ?_)
              · exact app_i (rg_w rl_1 (by decide) (by decide))
              · exact app_i (rg_w rl_0 (by decide) (by decide))
          · refine jn_pred (fun z209 => rg 0 1 z209) (fun z209 h209 => ?_) ?_
            · refine lt_pred (fun z217 e217 => ?_)
              have k217 : XOK z217.2 ∧ rg 1 3 z217.1 := by rw [e217]; exact ok_x2_skip σ z209 ok h209
              exact ⟨k217.1, k217.2⟩
            · refine ite_pred (fun c209 => ?_) (fun c209 => ?_)
              · exact app_i (rg_w rl_0 (by decide) (by decide))
              · exact app_i (rg_w rl_1 (by decide) (by decide))
    · exact ⟨ok, (rg_w rl_1 (by decide) (by decide))⟩

set_option maxHeartbeats 4000000 in
theorem kp_x2_bits (σ : Sg) (x1 : Int32) {ka kb : Int32} {m : Int} (hk : Kp ka kb m σ) (hm : m ≤ 1500260000) : Kp ka kb m (x2_bits σ x1).2 := by
  have hm0 : 0 ≤ m := hk.nn
  show Kpi ka kb m (x2_bits σ x1)
  unfold x2_bits
  refine lt_pred (fun v12 e12 => ?_)
  refine lt_pred (fun v19 e19 => ?_)
  refine lt_pred (fun v26 e26 => ?_)
  refine ite_pred (fun c33 => ?_) (fun c33 => ?_)
  · refine jn_pred (fun z47 => True) (fun z47 h47 => ?_) ?_
    · refine ite_pred (fun c55 => ?_) (fun c55 => ?_)
      · refine lt_pred (fun s67 e67 => ?_)
        have q67 : Kp ka kb m s67 := by rw [e67]; exact Kp.w (kp_x2_go σ ((σ 0 0) + v12) hk (by omega)) (by omega)
        exact Kp.w q67 (by omega)
      · exact Kp.w hk (by omega)
    · refine ite_pred (fun c47 => ?_) (fun c47 => ?_)
      · exact app_i trivial
      · exact app_i trivial
  · refine ite_pred (fun c76 => ?_) (fun c76 => ?_)
    · refine lt_pred (fun v87 e87 => ?_)
      refine ite_pred (fun c87_0 => ?_) (fun c87_0 => ?_)
      · refine jn_pred (fun z123 => True) (fun z123 h123 => ?_) ?_
        · refine lt_pred (fun s149 e149 => ?_)
          have q149 : Kp ka kb m s149 := by rw [e149]; exact Kp.same hk rfl rfl rfl
          exact Kp.w q149 (by omega)
        · refine ite_pred (fun c123 => ?_) (fun c123 => ?_)
          · exact app_i trivial
          · exact app_i trivial
      · refine ite_pred (fun c87_1 => ?_) (fun c87_1 => ?_)
        · refine jn_pred (fun z164 => True) (fun z164 h164 => ?_) ?_
          · refine lt_pred (fun s172 e172 => ?_)
            have q172 : Kp ka kb m s172 := by rw [e172]; exact Kp.w (kp_x2_set σ 64 z164 hk (by omega)) (by omega)
            exact Kp.w q172 (by omega)
          · refine ite_pred (fun c164 => ?_) (fun c164 => ?_)
            · exact app_i trivial
            · exact app_i trivial
        · refine ite_pred (fun c87_2 => ?_) (fun c87_2 => ?_)
          · refine jn_pred (fun z187 => True) (fun z187 h187 => ?_) ?_
            · refine lt_pred (fun z195 e195 => ?_)
              have q195 : Kp ka kb m z195.2 := by rw [e195]; exact Kp.w (kp_x2_skip σ z187 hk (by omega)) (by omega)
              exact Kp.w q195 (by omega)
            · refine ite_pred (fun c187 => ?_) (fun c187 => ?_)
              · exact app_i trivial
              · exact app_i trivial
          · refine jn_pred (fun z209 => True) (fun z209 h209 => ?_) ?_
            · refine lt_pred (fun z217 e217 => ?_)
              have q217 : Kp ka kb m z217.2 := by rw [e217]; exact Kp.w (kp_x2_skip σ z209 hk (by omega)) (by omega)
              exact Kp.w q217 (by omega)
            · refine ite_pred (fun c209 => ?_) (fun c209 => ?_)
              · exact app_i trivial
              · exact app_i trivial
    · exact Kp.w hk (by omega)

def x2_nine (σ : Sg) (x1 : Int32) (x2 : Int32) : Int32 × Sg :=
  lt (((x1 >>> (8 : Int32)) &&& 15) : Int32) fun v7 =>
  if (((v7 = 0) ∨ (v7 = 1)) ∨ (v7 = 2)) ∨ (v7 = 3) then
    lt (x2_moved σ x1 x2) fun z71 =>
    (z71.1, z71.2)
  else
    if (v7 = 4) ∨ (v7 = 5) then
      lt (x2_one σ x1 x2) fun z78 =>
      (z78.1, z78.2)
    else
      if (v7 = 6) ∨ (v7 = 7) then
        lt (x2_words σ x1) fun z84 =>
        (z84.1, z84.2)
      else
        if (((v7 = 8) ∨ (v7 = 9)) ∨ (v7 = 10)) ∨ (v7 = 11) then
          lt (x2_portBits σ x1) fun z90 =>
          (z90.1, z90.2)
        else
          lt (x2_product σ ((σ 1 (((x1 >>> (4 : Int32)) &&& 31)).toNatClampNeg) * (σ 1 (((x1 &&& 15) ||| ((x1 >>> (5 : Int32)) &&& 16))).toNatClampNeg)) 0) fun s124 =>
          (2, s124)
set_option maxHeartbeats 4000000 in
theorem ok_x2_nine (σ : Sg) (x1 : Int32) (x2 : Int32) (ok : XOK σ) (hx2 : rg 0 1 x2) : (Pri XOK 1 4) (x2_nine σ x1 x2) := by
  unfold x2_nine
  refine lt_pred (fun v7 e7 => ?_)
  have f7 : rg 0 15 v7 := by rw [e7]; exact (rg_and_r (rg_w (lo2 := 0) rl_15 (by decide) (Int.le_refl _)))
  refine ite_pred (fun c7_0 => ?_) (fun c7_0 => ?_)
  · refine lt_pred (fun z71 e71 => ?_)
    have k71 : XOK z71.2 ∧ rg 1 3 z71.1 := by rw [e71]; exact ok_x2_moved σ x1 x2 ok hx2
    exact ⟨k71.1, (rg_w k71.2 (by decide) (by decide))⟩
  · have n7_0 : ¬ v7 = 0 := (fun q => c7_0 (Or.inl (Or.inl (Or.inl q))))
    have n7_1 : ¬ v7 = 1 := (fun q => c7_0 (Or.inl (Or.inl (Or.inr q))))
    have n7_2 : ¬ v7 = 2 := (fun q => c7_0 (Or.inl (Or.inr q)))
    have n7_3 : ¬ v7 = 3 := (fun q => c7_0 (Or.inr q))
    refine ite_pred (fun c7_4 => ?_) (fun c7_4 => ?_)
    · refine lt_pred (fun z78 e78 => ?_)
      have k78 : XOK z78.2 ∧ rg 1 4 z78.1 := by rw [e78]; exact ok_x2_one σ x1 x2 ok hx2
      exact ⟨k78.1, k78.2⟩
    · have n7_4 : ¬ v7 = 4 := (fun q => c7_4 (Or.inl q))
      have n7_5 : ¬ v7 = 5 := (fun q => c7_4 (Or.inr q))
      refine ite_pred (fun c7_6 => ?_) (fun c7_6 => ?_)
      · refine lt_pred (fun z84 e84 => ?_)
        have k84 : XOK z84.2 ∧ rg 2 2 z84.1 := by rw [e84]; exact ok_x2_words σ x1 ok
        exact ⟨k84.1, (rg_w k84.2 (by decide) (by decide))⟩
      · have n7_6 : ¬ v7 = 6 := (fun q => c7_6 (Or.inl q))
        have n7_7 : ¬ v7 = 7 := (fun q => c7_6 (Or.inr q))
        refine ite_pred (fun c7_8 => ?_) (fun c7_8 => ?_)
        · refine lt_pred (fun z90 e90 => ?_)
          have k90 : XOK z90.2 ∧ rg 1 3 z90.1 := by rw [e90]; exact ok_x2_portBits σ x1 ok
          exact ⟨k90.1, (rg_w k90.2 (by decide) (by decide))⟩
        · have n7_8 : ¬ v7 = 8 := (fun q => c7_8 (Or.inl (Or.inl (Or.inl q))))
          have n7_9 : ¬ v7 = 9 := (fun q => c7_8 (Or.inl (Or.inl (Or.inr q))))
          have n7_10 : ¬ v7 = 10 := (fun q => c7_8 (Or.inl (Or.inr q)))
          have n7_11 : ¬ v7 = 11 := (fun q => c7_8 (Or.inr q))
          refine lt_pred (fun s124 e124 => ?_)
          have k124 : XOK s124 := by rw [e124]; exact ok_x2_product σ ((σ 1 (((x1 >>> (4 : Int32)) &&& 31)).toNatClampNeg) * (σ 1 (((x1 &&& 15) ||| ((x1 >>> (5 : Int32)) &&& 16))).toNatClampNeg)) 0 ok (rg_w rl_0 (by decide) (by decide))
          exact ⟨k124, (rg_w rl_2 (by decide) (by decide))⟩

set_option maxHeartbeats 4000000 in
theorem kp_x2_nine (σ : Sg) (x1 : Int32) (x2 : Int32) {ka kb : Int32} {m : Int} (hk : Kp ka kb m σ) (hm : m ≤ 1500220000) : Kp ka kb (m + 8000) (x2_nine σ x1 x2).2 := by
  have hm0 : 0 ≤ m := hk.nn
  show Kpi ka kb (m + 8000) (x2_nine σ x1 x2)
  unfold x2_nine
  refine lt_pred (fun v7 e7 => ?_)
  refine ite_pred (fun c7_0 => ?_) (fun c7_0 => ?_)
  · refine lt_pred (fun z71 e71 => ?_)
    have q71 : Kp ka kb (m + 4) z71.2 := by rw [e71]; exact Kp.w (kp_x2_moved σ x1 x2 hk (by omega)) (by omega)
    exact Kp.w q71 (by omega)
  · refine ite_pred (fun c7_4 => ?_) (fun c7_4 => ?_)
    · refine lt_pred (fun z78 e78 => ?_)
      have q78 : Kp ka kb (m + 8000) z78.2 := by rw [e78]; exact Kp.w (kp_x2_one σ x1 x2 hk (by omega)) (by omega)
      exact Kp.w q78 (by omega)
    · refine ite_pred (fun c7_6 => ?_) (fun c7_6 => ?_)
      · refine lt_pred (fun z84 e84 => ?_)
        have q84 : Kp ka kb m z84.2 := by rw [e84]; exact Kp.w (kp_x2_words σ x1 hk (by omega)) (by omega)
        exact Kp.w q84 (by omega)
      · refine ite_pred (fun c7_8 => ?_) (fun c7_8 => ?_)
        · refine lt_pred (fun z90 e90 => ?_)
          have q90 : Kp ka kb (m + 4) z90.2 := by rw [e90]; exact Kp.w (kp_x2_portBits σ x1 hk (by omega)) (by omega)
          exact Kp.w q90 (by omega)
        · refine lt_pred (fun s124 e124 => ?_)
          have q124 : Kp ka kb m s124 := by rw [e124]; exact Kp.w (kp_x2_product σ ((σ 1 (((x1 >>> (4 : Int32)) &&& 31)).toNatClampNeg) * (σ 1 (((x1 &&& 15) ||| ((x1 >>> (5 : Int32)) &&& 16))).toNatClampNeg)) 0 hk (by omega)) (by omega)
          exact Kp.w q124 (by omega)

def x2_instruction (σ : Sg) : Int32 × Sg :=
  lt ((σ 0 0) : Int32) fun v4 =>
  lt (x2_next σ) fun z6 =>
  lt ((z6.1 >>> (12 : Int32)) : Int32) fun v14 =>
  if v14 = 0 then
    lt ((
      if z6.1 < 1024 then
        lt (x2_pairs z6.2 z6.1) fun z101 =>
        (z101.1, z101.2)
      else
        lt (x2_twoRegisters z6.2 z6.1) fun z109 =>
        (z109.1, z109.2)) : Int32 × Sg) fun z96 =>
    (z96.1, z96.2)
  else
    if (v14 = 1) ∨ (v14 = 2) then
      lt (x2_twoRegisters z6.2 z6.1) fun z115 =>
      (z115.1, z115.2)
    else
      if (v14 = 8) ∨ (v14 = 10) then
        lt (x2_displaced z6.2 z6.1) fun z121 =>
        (z121.1, z121.2)
      else
        if v14 = 9 then
          lt ((
            if v4 < 1536 then
              0
            else
              1) : Int32) fun z131 =>
          lt (x2_nine z6.2 z6.1 z131) fun z139 =>
          (z139.1, z139.2)
        else
          if v14 = 11 then
            lt (x2_ports z6.2 z6.1) fun z145 =>
            (z145.1, z145.2)
          else
            if (v14 = 12) ∨ (v14 = 13) then
              lt ((
                if (z6.1 >>> (12 : Int32)) = 13 then
                  lt (x2_pushPlace z6.2) fun s159 =>
                  s159
                else
                  z6.2) : Sg) fun z155 =>
              lt (x2_go z155 ((z155 0 0) + (((z6.1 &&& 4095) <<< (20 : Int32)) >>> (20 : Int32)))) fun s179 =>
              lt ((
                if (z6.1 >>> (12 : Int32)) = 13 then
                  3
                else
                  2) : Int32) fun z188 =>
              (z188, s179)
            else
              if v14 = 15 then
                lt (x2_bits z6.2 z6.1) fun z199 =>
                (z199.1, z199.2)
              else
                lt (x2_constant z6.2 z6.1) fun z205 =>
                (z205.1, z205.2)
set_option maxHeartbeats 4000000 in
theorem ok_x2_instruction (σ : Sg) (ok : XOK σ) : (Pri XOK 1 4) (x2_instruction σ) := by
  unfold x2_instruction
  refine lt_pred (fun v4 e4 => ?_)
  have f4 : rg 0 2047 v4 := by rw [e4]; exact (xr0_0 ok)
  refine lt_pred (fun z6 e6 => ?_)
  have k6 : XOK z6.2 ∧ rg 0 65535 z6.1 := by rw [e6]; exact ok_x2_next σ ok
  refine lt_pred (fun v14 e14 => ?_)
  have f14 : rg 0 15 v14 := by rw [e14]; exact (rg_shr 12 (by decide +kernel) k6.2)
  refine ite_pred (fun c14_0 => ?_) (fun c14_0 => ?_)
  · refine jn_pred (fun z96 => rg 1 3 z96.1 ∧ XOK z96.2) (fun z96 h96 => ?_) ?_
    · exact ⟨h96.2, (rg_w h96.1 (by decide) (by decide))⟩
    · refine ite_pred (fun c96 => ?_) (fun c96 => ?_)
      · refine lt_pred (fun z101 e101 => ?_)
        have k101 : XOK z101.2 ∧ rg 1 2 z101.1 := by rw [e101]; exact ok_x2_pairs z6.2 z6.1 k6.1
        exact app_i ⟨(rg_w k101.2 (by decide) (by decide)), k101.1⟩
      · refine lt_pred (fun z109 e109 => ?_)
        have k109 : XOK z109.2 ∧ rg 1 3 z109.1 := by rw [e109]; exact ok_x2_twoRegisters z6.2 z6.1 k6.1
        exact app_i ⟨k109.2, k109.1⟩
  · refine ite_pred (fun c14_1 => ?_) (fun c14_1 => ?_)
    · refine lt_pred (fun z115 e115 => ?_)
      have k115 : XOK z115.2 ∧ rg 1 3 z115.1 := by rw [e115]; exact ok_x2_twoRegisters z6.2 z6.1 k6.1
      exact ⟨k115.1, (rg_w k115.2 (by decide) (by decide))⟩
    · have n14_1 : ¬ v14 = 1 := (fun q => c14_1 (Or.inl q))
      have n14_2 : ¬ v14 = 2 := (fun q => c14_1 (Or.inr q))
      refine ite_pred (fun c14_8 => ?_) (fun c14_8 => ?_)
      · refine lt_pred (fun z121 e121 => ?_)
        have k121 : XOK z121.2 ∧ rg 2 2 z121.1 := by rw [e121]; exact ok_x2_displaced z6.2 z6.1 k6.1
        exact ⟨k121.1, (rg_w k121.2 (by decide) (by decide))⟩
      · have n14_8 : ¬ v14 = 8 := (fun q => c14_8 (Or.inl q))
        have n14_10 : ¬ v14 = 10 := (fun q => c14_8 (Or.inr q))
        refine ite_pred (fun c14_9 => ?_) (fun c14_9 => ?_)
        · refine jn_pred (fun z131 => rg 0 1 z131) (fun z131 h131 => ?_) ?_
          · refine lt_pred (fun z139 e139 => ?_)
            have k139 : XOK z139.2 ∧ rg 1 4 z139.1 := by rw [e139]; exact ok_x2_nine z6.2 z6.1 z131 k6.1 h131
            exact ⟨k139.1, k139.2⟩
          · refine ite_pred (fun c131 => ?_) (fun c131 => ?_)
            · exact app_i (rg_w rl_0 (by decide) (by decide))
            · exact app_i (rg_w rl_1 (by decide) (by decide))
        · refine ite_pred (fun c14_11 => ?_) (fun c14_11 => ?_)
          · refine lt_pred (fun z145 e145 => ?_)
            have k145 : XOK z145.2 ∧ rg 1 1 z145.1 := by rw [e145]; exact ok_x2_ports z6.2 z6.1 k6.1
            exact ⟨k145.1, (rg_w k145.2 (by decide) (by decide))⟩
          · refine ite_pred (fun c14_12 => ?_) (fun c14_12 => ?_)
            · refine jn_pred (fun z155 => XOK z155) (fun z155 h155 => ?_) ?_
              · refine lt_pred (fun s179 e179 => ?_)
                have k179 : XOK s179 := by rw [e179]; exact ok_x2_go z155 ((z155 0 0) + (((z6.1 &&& 4095) <<< (20 : Int32)) >>> (20 : Int32))) h155
                refine jn_pred (fun z188 => rg 2 3 z188) (fun z188 h188 => ?_) ?_
                · exact ⟨k179, (rg_w h188 (by decide) (by decide))⟩
                · refine ite_pred (fun c188 => ?_) (fun c188 => ?_)
                  · exact app_i (rg_w rl_3 (by decide) (by decide))
                  · exact app_i (rg_w rl_2 (by decide) (by decide))
              · refine ite_pred (fun c155 => ?_) (fun c155 => ?_)
                · refine lt_pred (fun s159 e159 => ?_)
                  have k159 : XOK s159 := by rw [e159]; exact ok_x2_pushPlace z6.2 k6.1
                  exact app_i k159
                · exact app_i k6.1
            · have n14_12 : ¬ v14 = 12 := (fun q => c14_12 (Or.inl q))
              have n14_13 : ¬ v14 = 13 := (fun q => c14_12 (Or.inr q))
              refine ite_pred (fun c14_15 => ?_) (fun c14_15 => ?_)
              · refine lt_pred (fun z199 e199 => ?_)
                have k199 : XOK z199.2 ∧ rg 1 3 z199.1 := by rw [e199]; exact ok_x2_bits z6.2 z6.1 k6.1
                exact ⟨k199.1, (rg_w k199.2 (by decide) (by decide))⟩
              · refine lt_pred (fun z205 e205 => ?_)
                have k205 : XOK z205.2 ∧ rg 1 1 z205.1 := by rw [e205]; exact ok_x2_constant z6.2 z6.1 k6.1
                exact ⟨k205.1, (rg_w k205.2 (by decide) (by decide))⟩

set_option maxHeartbeats 4000000 in
theorem kp_x2_instruction (σ : Sg) {ka kb : Int32} {m : Int} (hk : Kp ka kb m σ) (hm : m ≤ 1500210000) : Kp ka kb (m + 8000) (x2_instruction σ).2 := by
  have hm0 : 0 ≤ m := hk.nn
  show Kpi ka kb (m + 8000) (x2_instruction σ)
  unfold x2_instruction
  refine lt_pred (fun v4 e4 => ?_)
  refine lt_pred (fun z6 e6 => ?_)
  have q6 : Kp ka kb m z6.2 := by rw [e6]; exact Kp.w (kp_x2_next σ hk (by omega)) (by omega)
  refine lt_pred (fun v14 e14 => ?_)
  refine ite_pred (fun c14_0 => ?_) (fun c14_0 => ?_)
  · refine jn_pred (fun z96 => Kp ka kb m z96.2) (fun z96 h96 => ?_) ?_
    · exact Kp.w h96 (by omega)
    · refine ite_pred (fun c96 => ?_) (fun c96 => ?_)
      · refine lt_pred (fun z101 e101 => ?_)
        have q101 : Kp ka kb m z101.2 := by rw [e101]; exact Kp.w (kp_x2_pairs z6.2 z6.1 q6 (by omega)) (by omega)
        exact app_i (Kp.w q101 (by omega))
      · refine lt_pred (fun z109 e109 => ?_)
        have q109 : Kp ka kb m z109.2 := by rw [e109]; exact Kp.w (kp_x2_twoRegisters z6.2 z6.1 q6 (by omega)) (by omega)
        exact app_i (Kp.w q109 (by omega))
  · refine ite_pred (fun c14_1 => ?_) (fun c14_1 => ?_)
    · refine lt_pred (fun z115 e115 => ?_)
      have q115 : Kp ka kb m z115.2 := by rw [e115]; exact Kp.w (kp_x2_twoRegisters z6.2 z6.1 q6 (by omega)) (by omega)
      exact Kp.w q115 (by omega)
    · refine ite_pred (fun c14_8 => ?_) (fun c14_8 => ?_)
      · refine lt_pred (fun z121 e121 => ?_)
        have q121 : Kp ka kb (m + 4) z121.2 := by rw [e121]; exact Kp.w (kp_x2_displaced z6.2 z6.1 q6 (by omega)) (by omega)
        exact Kp.w q121 (by omega)
      · refine ite_pred (fun c14_9 => ?_) (fun c14_9 => ?_)
        · refine jn_pred (fun z131 => True) (fun z131 h131 => ?_) ?_
          · refine lt_pred (fun z139 e139 => ?_)
            have q139 : Kp ka kb (m + 8000) z139.2 := by rw [e139]; exact Kp.w (kp_x2_nine z6.2 z6.1 z131 q6 (by omega)) (by omega)
            exact Kp.w q139 (by omega)
          · refine ite_pred (fun c131 => ?_) (fun c131 => ?_)
            · exact app_i trivial
            · exact app_i trivial
        · refine ite_pred (fun c14_11 => ?_) (fun c14_11 => ?_)
          · refine lt_pred (fun z145 e145 => ?_)
            have q145 : Kp ka kb (m + 4) z145.2 := by rw [e145]; exact Kp.w (kp_x2_ports z6.2 z6.1 q6 (by omega)) (by omega)
            exact Kp.w q145 (by omega)
          · refine ite_pred (fun c14_12 => ?_) (fun c14_12 => ?_)
            · refine jn_pred (fun z155 => Kp ka kb (m + 8) z155) (fun z155 h155 => ?_) ?_
              · refine lt_pred (fun s179 e179 => ?_)
                have q179 : Kp ka kb (m + 8) s179 := by rw [e179]; exact Kp.w (kp_x2_go z155 ((z155 0 0) + (((z6.1 &&& 4095) <<< (20 : Int32)) >>> (20 : Int32))) h155 (by omega)) (by omega)
                refine jn_pred (fun z188 => True) (fun z188 h188 => ?_) ?_
                · exact Kp.w q179 (by omega)
                · refine ite_pred (fun c188 => ?_) (fun c188 => ?_)
                  · exact app_i trivial
                  · exact app_i trivial
              · refine ite_pred (fun c155 => ?_) (fun c155 => ?_)
                · refine lt_pred (fun s159 e159 => ?_)
                  have q159 : Kp ka kb (m + 8) s159 := by rw [e159]; exact Kp.w (kp_x2_pushPlace z6.2 q6 (by omega)) (by omega)
                  exact app_i (Kp.w q159 (by omega))
                · exact app_i (Kp.w q6 (by omega))
            · refine ite_pred (fun c14_15 => ?_) (fun c14_15 => ?_)
              · refine lt_pred (fun z199 e199 => ?_)
                have q199 : Kp ka kb m z199.2 := by rw [e199]; exact Kp.w (kp_x2_bits z6.2 z6.1 q6 (by omega)) (by omega)
                exact Kp.w q199 (by omega)
              · refine lt_pred (fun z205 e205 => ?_)
                have q205 : Kp ka kb m z205.2 := by rw [e205]; exact Kp.w (kp_x2_constant z6.2 z6.1 q6 (by omega)) (by omega)
                exact Kp.w q205 (by omega)

