/-! PLAIN LAW 7: more instructions of registers on one state -/
set_option maxRecDepth 100000
theorem lt_pr {α : Type} {a : α} {f : α → Sg} {n : Int32} {y : Int32 × Sg} (h : y = (n, f a)) : y = (n, lt a f) := h
theorem bit0_if (r : Int32) : (if (r &&& 1) = 1 then (1 : Int32) else 0) = if (r &&& 1) = 0 then 0 else 1 := by
  refine ifniff ?_
  rw [i_eq, i_eq, and1, ti0, ti1]; omega
theorem b7lt {v : Int32} (h : rg 0 255 v) : (v < 128) ↔ (v &&& 128 = 0) := by
  rw [i_lt, ti128, and128_iff]; have := h.1; have := h.2; omega
theorem shifted_eq (σ : Sg) (ok : XOK σ) (x1 x2 : Int32) (h : ((x1 &&& 15 = 5) ∨ (x1 &&& 15 = 6)) ∨ (x1 &&& 15 = 7)) : m_shifted σ x1 x2 (σ 1 x2.toNatClampNeg) = (1, x2_shifted σ x2 (x1 &&& 15)) := by
  have hr := xr_1 ok x2.toNatClampNeg
  have hz : (if (x1 &&& 15) = 5 then ((σ 1 x2.toNatClampNeg) &&& 128) else if (x1 &&& 15) = 6 then 0 else ((m_carry σ) <<< (7 : Int32)) : Int32) = if (x1 &&& 15) = 5 then ((σ 1 x2.toNatClampNeg) &&& 128) else if (¬ ((x1 &&& 15) = 7)) ∨ ((x2_is σ 1) = 0) then 0 else 128 := by
    refine ite_e (fun _ => rfl) (fun h5 => ?_)
    rcases h with (h | h) | h
    · exact absurd h h5
    · rw [if_pos h, if_pos (Or.inl (by rw [h]; decide))]
    · rw [if_neg (by rw [h]; decide), carry_eq]
      by_cases q : x2_is σ 1 = 0
      · rw [if_pos q, if_pos (Or.inr q)]; decide
      · rw [if_neg q, if_neg (by rintro (z | z); exact z h; exact q z)]; decide
  unfold m_shifted x2_shifted
  refine lt_pr ?_
  rw [hz]
  refine lt_l (lt_pr ?_)
  rw [Int32.or_comm]
  have rV : rg 0 255 ((if (x1 &&& 15) = 5 then ((σ 1 x2.toNatClampNeg) &&& 128) else if (¬ ((x1 &&& 15) = 7)) ∨ ((x2_is σ 1) = 0) then 0 else 128 : Int32) ||| ((σ 1 x2.toNatClampNeg) >>> (1 : Int32))) := by
    refine rg_or 8 (a := 128) ?_ (rg_shr 1 (by decide +kernel) hr) (by decide) (by decide) (by decide)
    refine rg_ite (rg_and_r (rg_w rl_128 (by decide) (by decide))) (rg_ite (rg_w rl_0 (by decide) (by decide)) (rg_w rl_128 (by decide) (by decide)))
  revert rV
  generalize ((if (x1 &&& 15) = 5 then ((σ 1 x2.toNatClampNeg) &&& 128) else if (¬ ((x1 &&& 15) = 7)) ∨ ((x2_is σ 1) = 0) then 0 else 128 : Int32) ||| ((σ 1 x2.toNatClampNeg) >>> (1 : Int32))) = V
  intro rV
  refine lt_l (lt_pr ?_)
  rw [bit0_if]
  have rC : rg 0 1 (if ((σ 1 x2.toNatClampNeg) &&& 1) = 0 then (0 : Int32) else 1) := rg_ite01
  revert rC
  generalize (if ((σ 1 x2.toNatClampNeg) &&& 1) = 0 then (0 : Int32) else 1) = C
  intro rC
  refine lt_l (lt_pr ?_)
  rw [setFlag_set, bsh0]
  have e1 : m_flag (x2_set σ 1 C) 0 = C := by
    rw [m_flag_0, ← x2_is_eq, is_set_self _ _ (by decide)]
    rcases b01 rC with rfl | rfl
    · rw [if_pos rfl]
    · rw [if_neg (by decide)]
  have e2 : (if V < 128 then (0 : Int32) else 1) = if (V &&& 128) = 0 then 0 else 1 := ififf (b7lt rV)
  generalize x2_set σ 1 C = s at e1 ⊢
  refine lt_l (lt_pr ?_)
  rw [e2]
  refine lt_l (lt_pr ?_)
  rw [e1]
  generalize (if (V &&& 128) = 0 then (0 : Int32) else 1) = w
  refine lt_l (lt_pr ?_)
  have e3 := by_eq s V (if w = C then (0 : Int32) else 1) rg_ite01
  rw [m255 rV] at e3
  refine lt_l (lt_pr ?_)
  rw [e3]
  refine lt_l (lt_pr ?_)
  rfl
theorem skip_if (σ : Sg) (ok : XOK σ) (c : Prop) [Decidable c] : x2_skip σ (if c then 1 else 0) = if c then (1 + (m_skips σ).1, (m_skips σ).2) else (1, σ) := by
  by_cases h : c
  · rw [if_pos h, if_pos h]; exact skip1 σ ok
  · rw [if_neg h, if_neg h]; rfl
theorem sext7 : ∀ n : Fin 128, ((nI n.val <<< (25 : Int32)) >>> (25 : Int32)) = if nI n.val < 64 then nI n.val else nI n.val - 128 := by decide +kernel
theorem sext7i {x : Int32} (h : rg 0 127 x) : ((x <<< (25 : Int32)) >>> (25 : Int32)) = if x < 64 then x else x - 128 := by
  obtain ⟨e, e2⟩ := rg_nI h
  have := h.2
  rw [e]; exact sext7 ⟨x.toNatClampNeg, by omega⟩
theorem is01 (σ : Sg) (f : Int32) : x2_is σ f = 0 ∨ x2_is σ f = 1 := b01 (rg_is σ f)
theorem bits_eq (σ : Sg) (ok : XOK σ) (x1 : Int32) : m_bits σ x1 = x2_bits σ x1 := by
  unfold m_bits x2_bits
  refine lt_r ?_
  refine lt_l ?_
  refine lt_e rfl (fun v11 => ?_)
  refine lt_r ?_
  refine ite_e (fun h1 => ?_) (fun h1 => ?_)
  · refine lt_l ?_
    by_cases h2 : x1 &&& 1024 = 0
    · rw [if_pos h2, if_pos h2]
      refine lt_ee ?_
      rw [flag_is σ (rg7 x1)]
      refine (ifniff (e := x2_is σ ((1 : Int32) <<< ((x1 &&& 7) &&& 31)) = 1) ?_).trans (ite_e (fun _ => ?_) (fun _ => rfl))
      · rcases is01 σ ((1 : Int32) <<< ((x1 &&& 7) &&& 31)) with q | q <;> rw [q] <;> decide
      · rw [sext7i (rg_and_r (rg_w rl_127 (by decide) (by decide)))]; rfl
    · rw [if_neg h2, if_neg h2]
      refine lt_ee ?_
      rw [flag_is σ (rg7 x1)]
      refine (ifniff (e := x2_is σ ((1 : Int32) <<< ((x1 &&& 7) &&& 31)) = 0) ?_).trans (ite_e (fun _ => ?_) (fun _ => rfl))
      · rcases is01 σ ((1 : Int32) <<< ((x1 &&& 7) &&& 31)) with q | q <;> rw [q] <;> decide
      · rw [sext7i (rg_and_r (rg_w rl_127 (by decide) (by decide)))]; rfl
  · refine ite_e (fun h2 => ?_) (fun h2 => rfl)
    refine lt_l ?_
    rw [bit_sel_if _ (rg7 x1)]
    refine lt_eq rfl (fun v87 e87 => ?_)
    refine ite_e (fun h3 => ?_) (fun h3 => ite_e (fun h4 => ?_) (fun h4 => ?_))
    · have e : m_flag σ 6 = x2_is σ 64 := m_flag_6 σ
      rw [e]
    · refine lt_r ?_
      rw [setFlag_set, bsh6]
    · have h9 : v87.toInt = 2 ∨ v87.toInt = 3 := by
        have a := and3 (x1 >>> (9 : Int32))
        rw [← e87] at a
        have b : ¬ v87.toInt = 0 := fun q => h3 (i_eq.mpr (by rw [q, ti0]))
        have c : ¬ v87.toInt = 1 := fun q => h4 (i_eq.mpr (by rw [q, ti1]))
        omega
      have hb : ((x1 >>> (9 : Int32)) &&& 1).toInt = v87.toInt % 2 := by
        rw [e87, and1, and3]; omega
      refine lt_l ?_
      generalize hF : (fun z217 : Int32 × Sg => (z217.1, z217.2)) = F
      have hF2 : ∀ z, F z = z := by intro z; rw [← hF]
      rcases h9 with h9 | h9
      · have g1 : ((x1 >>> (9 : Int32)) &&& 1) = 0 := i_eq.mpr (by rw [hb, h9, ti0]; decide)
        have g2 : v87 = 2 := i_eq.mpr (by rw [h9]; decide +kernel)
        rw [if_neg (show ¬ ((x1 >>> (9 : Int32)) &&& 1) = 1 by rw [g1]; decide), if_pos g2]
        refine lt_r (lt_r ?_)
        refine lt_l ?_
        rw [hF2, hF2, skip_if σ ok]
        refine (ififf (e := σ 1 v11.toNatClampNeg &&& (1 : Int32) <<< ((x1 &&& 7) &&& 31) = 0) ?_).trans (ite_e (fun _ => rfl) (fun _ => rfl))
        by_cases q : σ 1 v11.toNatClampNeg &&& (1 : Int32) <<< ((x1 &&& 7) &&& 31) = 0
        · rw [if_pos q]; exact ⟨fun _ => q, fun _ => rfl⟩
        · rw [if_neg q]; exact ⟨fun z => absurd z (by decide), fun z => absurd z q⟩
      · have g1 : ((x1 >>> (9 : Int32)) &&& 1) = 1 := i_eq.mpr (by rw [hb, h9, ti1]; decide)
        have g2 : ¬ v87 = 2 := fun q => by rw [q] at h9; revert h9; decide +kernel
        rw [if_pos g1, if_neg g2]
        refine lt_r (lt_r ?_)
        refine lt_l ?_
        have e4 : (if σ 1 v11.toNatClampNeg &&& (1 : Int32) <<< ((x1 &&& 7) &&& 31) = 0 then (0 : Int32) else 1) = if ¬ (σ 1 v11.toNatClampNeg &&& (1 : Int32) <<< ((x1 &&& 7) &&& 31) = 0) then 1 else 0 := by
          by_cases q : σ 1 v11.toNatClampNeg &&& (1 : Int32) <<< ((x1 &&& 7) &&& 31) = 0
          · rw [if_pos q, if_neg (fun z => z q)]
          · rw [if_neg q, if_pos q]
        rw [hF2, hF2, e4, skip_if σ ok]
        refine (ififf (e := ¬ (σ 1 v11.toNatClampNeg &&& (1 : Int32) <<< ((x1 &&& 7) &&& 31) = 0)) ?_).trans (ite_e (fun _ => rfl) (fun _ => rfl))
        by_cases q : σ 1 v11.toNatClampNeg &&& (1 : Int32) <<< ((x1 &&& 7) &&& 31) = 0
        · rw [if_neg (fun z => z q)]; exact ⟨fun z => absurd z (by decide), fun z => absurd q z⟩
        · rw [if_pos q]; exact ⟨fun _ => q, fun _ => rfl⟩
