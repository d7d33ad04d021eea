/-! PLAIN LAW 33: a step -/
set_option maxRecDepth 100000
theorem st_w (σ : Sg) (a b : Int32) : x2_waits (sst (sst σ 0 1 a) 0 7 b) = x2_waits σ := rfl
theorem xstep_eq (σ : Sg) (h8 : ¬ σ 0 8 = 0) : x2_step σ = lt (if (0 < x2_waits (sst σ 0 3 ((σ 0 3) + 1))) ∧ (σ 0 7 = 0) then lt (x2_entry (sst (sst (sst σ 0 3 ((σ 0 3) + 1)) 0 1 0) 0 7 0) (x2_waits (sst σ 0 3 ((σ 0 3) + 1)))) fun s51 => lt (sst s51 0 1 0) fun s58 => ((4 : Int32), s58) else if σ 0 6 = 0 then x2_instruction (sst (sst (sst σ 0 3 ((σ 0 3) + 1)) 0 1 0) 0 7 0) else (1, sst (sst (sst σ 0 3 ((σ 0 3) + 1)) 0 1 0) 0 7 0)) fun z42 => x2_passL ((z42.1 + (z42.2 0 1)).toNatClampNeg + 1) z42.2 (z42.1 + (z42.2 0 1)) 0 := by
  unfold x2_step
  rw [if_neg h8]
  refine lt_l ?_
  refine lt_l ?_
  refine lt_l ?_
  refine lt_l ?_
  refine lt_l ?_
  have e7 : (sst (sst σ 0 3 ((σ 0 3) + 1)) 0 1 0) 0 7 = σ 0 7 := (sst_ne_j _ _ (by decide)).trans (sst_ne_j _ _ (by decide))
  have e6 : (sst (sst (sst σ 0 3 ((σ 0 3) + 1)) 0 1 0) 0 7 0) 0 6 = σ 0 6 := (sst_ne_j _ _ (by decide)).trans ((sst_ne_j _ _ (by decide)).trans (sst_ne_j _ _ (by decide)))
  rw [e7, e6]
  rfl
theorem mstep_eq (τ : Sg) : m_stepped τ = lt (if (¬ (m_awaited (sst τ 0 3 ((τ 0 3) + 1)) = 0)) ∧ (τ 0 7 = 0) then (4, m_enter (sst (sst τ 0 3 ((τ 0 3) + 1)) 0 7 0) (m_awaited (sst τ 0 3 ((τ 0 3) + 1)))) else if (¬ (m_awaited (sst τ 0 3 ((τ 0 3) + 1)) = 0)) ∨ (τ 0 6 = 0) then m_instruction (sst (sst τ 0 3 ((τ 0 3) + 1)) 0 7 0) else (1, sst (sst τ 0 3 ((τ 0 3) + 1)) 0 7 0)) fun z28 => m_steppedL (z28.1.toNatClampNeg + 1) z28.2 z28.1 (z28.2 0 2) 0 := by
  unfold m_stepped
  refine lt_l ?_
  refine lt_l ?_
  refine lt_l ?_
  refine lt_l ?_
  have e7 : (sst τ 0 3 ((τ 0 3) + 1)) 0 7 = τ 0 7 := sst_ne_j _ _ (by decide)
  have e6 : (sst (sst τ 0 3 ((τ 0 3) + 1)) 0 7 0) 0 6 = τ 0 6 := (sst_ne_j _ _ (by decide)).trans (sst_ne_j _ _ (by decide))
  rw [e7, e6]
  rfl
/-- what a step does before its cycles: the number of cycles, the states -/
def PreR (zx zm : Int32 × Sg) : Prop := zx.1 + zx.2 0 1 = zm.1 ∧ R false zx.2 zm.2 ∧ XOK zx.2
theorem sub_self0 (a : Int32) : a - a = 0 := Int32.sub_self a
theorem Pre_go {zx zm : Int32 × Sg} (h : PreR zx zm) : RP false (lt zx fun z42 => x2_passL ((z42.1 + (z42.2 0 1)).toNatClampNeg + 1) z42.2 (z42.1 + (z42.2 0 1)) 0) (lt zm fun z28 => m_steppedL (z28.1.toNatClampNeg + 1) z28.2 z28.1 (z28.2 0 2) 0) := by
  obtain ⟨h1, h2, h3⟩ := h
  rw [lt_g zx, lt_g zm, h1]
  exact R_passL _ _ _ _ _ _ h2 h3 (sub_self0 _)
theorem R_step {σ τ : Sg} (h : R false σ τ) (ok : XOK σ) (okt : XOK τ) (h8 : ¬ σ 0 8 = 0) : RP false (x2_step σ) (m_stepped τ) := by
  rw [xstep_eq σ h8, mstep_eq τ]
  have h3 : R false (sst σ 0 3 ((σ 0 3) + 1)) (sst τ 0 3 ((τ 0 3) + 1)) := R_scal h (by rw [h.sc 3 rfl]) rfl (fun q => by cases q)
  have o3 : XOK (sst σ 0 3 ((σ 0 3) + 1)) := xst_f0_3 ok
  have ot3 : XOK (sst τ 0 3 ((τ 0 3) + 1)) := xst_f0_3 okt
  have hw := R_waits h3
  have rw8 := ok_x2_waits _ o3
  have h7 : σ 0 7 = τ 0 7 := h.sc 7 rfl
  have h6 : σ 0 6 = τ 0 6 := h.sc 6 rfl
  have i6 : (sst σ 0 3 ((σ 0 3) + 1)) 0 6 = σ 0 6 := sst_ne_j _ _ (by decide)
  rw [← hw, ← h7, ← h6]
  have sf := h.sf
  revert h3 o3 ot3 rw8 i6
  generalize x2_waits (sst σ 0 3 ((σ 0 3) + 1)) = w
  generalize sst σ 0 3 ((σ 0 3) + 1) = s
  generalize sst τ 0 3 ((τ 0 3) + 1) = t
  intro h3 o3 ot3 rw8 i6
  have hm : R false (sst s 0 1 0) t := R_morel h3 0
  have om : XOK (sst s 0 1 0) := xst_f0_1 o3
  have hf : R false (sst (sst s 0 1 0) 0 7 0) (sst t 0 7 0) := R_fresh hm rfl (Or.inr rfl)
  have of : XOK (sst (sst s 0 1 0) 0 7 0) := xst_0_7 om (rg_w rl_0 (by decide) (by decide))
  have otf : XOK (sst t 0 7 0) := xst_0_7 ot3 (rg_w rl_0 (by decide) (by decide))
  have e1 : (sst (sst s 0 1 0) 0 7 0) 0 1 = 0 := (sst_ne_j _ _ (by decide)).trans (sst_eq _ _ _ _)
  have e7 : (sst (sst s 0 1 0) 0 7 0) 0 7 = 0 := sst_eq _ _ _ _
  have e6 : (sst (sst s 0 1 0) 0 7 0) 0 6 = σ 0 6 := (sst_ne_j _ _ (by decide)).trans ((sst_ne_j _ _ (by decide)).trans i6)
  revert hf of otf e1 e7 e6
  generalize sst (sst s 0 1 0) 0 7 0 = S
  generalize sst t 0 7 0 = T
  intro hf of otf e1 e7 e6
  have cw := pos_iff (x := w) rw8.1
  refine Pre_go ?_
  by_cases c1 : (0 < w) ∧ (σ 0 7 = 0)
  · rw [if_pos c1, if_pos ⟨cw.mp c1.1, c1.2⟩]
    have he := R_entry hf of (v := w) ⟨by have := i_lt.mp c1.1; rw [ti0] at this; omega, rw8.2⟩
    have oe := ok_x2_entry S w of ⟨by have := i_lt.mp c1.1; rw [ti0] at this; omega, rw8.2⟩
    rw [lt_g (x2_entry S w)]
    refine ⟨?_, R_morel he 0, xst_f0_1 oe⟩
    show 4 + (sst (x2_entry S w) 0 1 0) 0 1 = 4
    rw [sst_eq]; decide
  · rw [if_neg c1, if_neg (c := ¬ w = 0 ∧ σ 0 7 = 0) (fun z => c1 ⟨cw.mpr z.1, z.2⟩)]
    by_cases c2 : σ 0 6 = 0
    · rw [if_pos c2, if_pos (Or.inr c2)]
      have hi := R_instruction hf of otf (e6.trans c2) e7 e1
      exact ⟨hi.1, hi.2.weak, (ok_x2_instruction S of).1⟩
    · have w0 : w = 0 := by
        by_cases q : w = 0
        · exact q
        · have p := cw.mpr q
          rcases sf with z | z
          · exact absurd z c2
          · exact absurd ⟨p, z⟩ c1
      rw [if_neg c2, if_neg (by rintro (z | z); exact z w0; exact c2 z)]
      refine ⟨?_, hf, of⟩
      show 1 + S 0 1 = 1
      rw [e1]; decide
