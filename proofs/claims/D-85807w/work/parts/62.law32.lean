/-! PLAIN LAW 32: a cycle, the cycles of a step -/
set_option maxRecDepth 100000
theorem dg_f : ∀ n : Fin 256, (if (((nI n.val &&& 32) >>> (2 : Int32)) ||| (nI n.val &&& 7)) < 11 then (((nI n.val &&& 32) >>> (2 : Int32)) ||| (nI n.val &&& 7)) else (11 : Int32)) = (if 11 < ((nI n.val &&& 7) ||| ((nI n.val >>> (2 : Int32)) &&& 8)) then 11 else ((nI n.val &&& 7) ||| ((nI n.val >>> (2 : Int32)) &&& 8))) := by decide +kernel
theorem dg_e {w : Int32} (h : rg 0 255 w) : (if (((w &&& 32) >>> (2 : Int32)) ||| (w &&& 7)) < 11 then (((w &&& 32) >>> (2 : Int32)) ||| (w &&& 7)) else (11 : Int32)) = (if 11 < ((w &&& 7) ||| ((w >>> (2 : Int32)) &&& 8)) then 11 else ((w &&& 7) ||| ((w >>> (2 : Int32)) &&& 8))) := by
  obtain ⟨e, e2⟩ := rg_nI h
  have := h.2
  rw [e]; exact dg_f ⟨w.toNatClampNeg, by omega⟩
theorem or128_8 {w : Int32} (h : ¬ w &&& 8 = 0) : ¬ (w ||| 128) &&& 8 = 0 := by
  have e : (w ||| 128) &&& 8 = w &&& 8 := by
    rw [Int32.and_comm, and_or_d, Int32.and_comm 8 w]
    have : (8 : Int32) &&& 128 = 0 := by decide
    rw [this, Int32.or_zero]
  rw [e]; exact h
def DogR (b : Bool) (σ τ : Sg) : Prop := ((m_dog τ).1 = 1 ∧ (x8_cycle σ) 0 30 = 0 ∧ R b (x8_cycle σ) (m_dog τ).2) ∨ ((m_dog τ).1 = 0 ∧ ¬ (x8_cycle σ) 0 30 = 0 ∧ R b (x2_reset (sst (x8_cycle σ) 0 5 (((x8_cycle σ) 0 5) + 1)) 3) (m_dog τ).2)
theorem Dog_go {b : Bool} {σ τ S T : Sg} (e1 : x8_cycle σ = S) (e2 : m_dog τ = (1, T)) (h : R b S T) : DogR b σ τ := by
  unfold DogR
  left
  rw [e1, e2]
  exact ⟨rfl, h.rs, h⟩
theorem Dog_bite {b : Bool} {σ τ S T : Sg} (e1 : x8_cycle σ = sst S 0 30 1) (e2 : m_dog τ = (0, m_restart T 8)) (h : R b (sst S 0 5 ((S 0 5) + 1)) T) : DogR b σ τ := by
  unfold DogR
  right
  rw [e1, e2]
  refine ⟨rfl, by rw [sst_eq]; decide, ?_⟩
  rw [sst_ne_j S _ (by decide), sst_comm S _ _ (by decide)]
  exact R_reset h 1 (by decide) (by decide) (by decide)
theorem R_dog {b : Bool} {σ τ : Sg} (h : R b σ τ) (r96 : rg 0 255 (σ 1 96)) : DogR b σ τ := by
  have e96 : τ 1 96 = σ 1 96 := (h.da 96 rfl).symm
  have e24 : τ 0 24 = σ 0 24 := (h.sc 24 rfl).symm
  have k24 : ∀ v : Int32, R b (sst σ 0 24 v) (sst τ 0 24 v) := fun v => R_scal h rfl rfl (fun q => by cases q)
  by_cases p : ((σ 1 96) &&& 72) = 0
  · refine Dog_go (S := sst σ 0 24 0) (T := sst τ 0 24 0) ?_ ?_ (k24 0)
    · unfold x8_cycle
      refine lt_l ?_
      rw [if_pos p]; rfl
    · unfold m_dog
      rw [e96, if_pos p]; rfl
  · have g24 : (sst σ 0 24 ((σ 0 24) + 1)) 0 24 = (σ 0 24) + 1 := sst_eq _ _ _ _
    have g24t : (sst τ 0 24 ((σ 0 24) + 1)) 0 24 = (σ 0 24) + 1 := sst_eq _ _ _ _
    have g96t : (sst τ 0 24 ((σ 0 24) + 1)) 1 96 = σ 1 96 := (sst_ne_k _ _ (by decide)).trans e96
    have hs := dg_e r96
    have eX : x8_cycle σ = if ((σ 0 24) + 1) < ((4096 : Int32) <<< ((if 11 < ((σ 1 96 &&& 7) ||| ((σ 1 96 >>> (2 : Int32)) &&& 8)) then 11 else ((σ 1 96 &&& 7) ||| ((σ 1 96 >>> (2 : Int32)) &&& 8))) &&& 31)) then sst σ 0 24 ((σ 0 24) + 1) else (if (σ 1 96 &&& 64) = 0 then sst (sst σ 0 24 0) 0 30 1 else sst (sst σ 0 24 0) 1 96 ((σ 1 96) ||| 128)) := by
      unfold x8_cycle
      refine lt_l ?_
      rw [if_neg p]
      refine lt_l ?_
      rw [hs]
      refine lt_l ?_
      rw [g24]
      refine ite_e (fun _ => rfl) (fun _ => ?_)
      rw [sst_sst]
      refine lt_l ?_
      refine lt_l ?_
      exact ite_e (fun _ => rfl) (fun _ => rfl)
    have eM : m_dog τ = if ((σ 0 24) + 1) < ((4096 : Int32) <<< ((if 11 < ((σ 1 96 &&& 7) ||| ((σ 1 96 >>> (2 : Int32)) &&& 8)) then 11 else ((σ 1 96 &&& 7) ||| ((σ 1 96 >>> (2 : Int32)) &&& 8))) &&& 31)) then (1, sst τ 0 24 ((σ 0 24) + 1)) else (if (σ 1 96 &&& 64) = 0 then (0, m_restart (sst (sst τ 0 24 0) 0 5 ((τ 0 5) + 1)) 8) else (1, sst (sst τ 0 24 0) 1 96 ((σ 1 96) ||| 128))) := by
      unfold m_dog
      rw [e96, e24, if_neg p]
      refine lt_l ?_
      rw [g96t]
      refine lt_l ?_
      refine lt_l ?_
      rw [g24t]
      refine ite_e (fun _ => rfl) (fun _ => ?_)
      rw [sst_sst]
      refine lt_l ?_
      have a1 : (sst τ 0 24 0) 1 96 = σ 1 96 := (sst_ne_k _ _ (by decide)).trans e96
      have a2 : (sst τ 0 24 0) 0 5 = τ 0 5 := sst_ne_j _ _ (by decide)
      rw [a1, a2]
      exact ite_e (fun _ => rfl) (fun _ => rfl)
    by_cases q : ((σ 0 24) + 1) < ((4096 : Int32) <<< ((if 11 < ((σ 1 96 &&& 7) ||| ((σ 1 96 >>> (2 : Int32)) &&& 8)) then 11 else ((σ 1 96 &&& 7) ||| ((σ 1 96 >>> (2 : Int32)) &&& 8))) &&& 31))
    · rw [if_pos q] at eX eM
      exact Dog_go eX eM (k24 _)
    · rw [if_neg q] at eX eM
      by_cases w : (σ 1 96 &&& 64) = 0
      · rw [if_pos w] at eX eM
        refine Dog_bite eX eM ?_
        have a2 : (sst σ 0 24 0) 0 5 = τ 0 5 := (sst_ne_j _ _ (by decide)).trans (h.sc 5 rfl)
        rw [a2]
        exact R_scal (k24 0) rfl rfl (fun q => by cases q)
      · rw [if_neg w] at eX eM
        refine Dog_go eX eM ?_
        refine R_96 (k24 0) (fun z => or128_8 ?_)
        have := (k24 0).dg z
        rw [sst_ne_k σ _ (by decide)] at this
        exact this
/-! 22 moved past the timer and the line -/
theorem pu_lt {v : Int32} {a b : Sg} {f g : Sg → Sg} (h : a = sst b 0 22 v) (k : ∀ x, f (sst x 0 22 v) = sst (g x) 0 22 v) : lt a f = sst (lt b g) 0 22 v := by subst h; exact k b
theorem pu_ite {v : Int32} {c e : Prop} [Decidable c] [Decidable e] {a b a' b' : Sg} (hc : c ↔ e) (h1 : a = sst a' 0 22 v) (h2 : b = sst b' 0 22 v) : (if c then a else b) = sst (if e then a' else b') 0 22 v := by
  by_cases q : e
  · rw [if_pos q, if_pos (hc.mpr q)]; exact h1
  · rw [if_neg q, if_neg (fun z => q (hc.mp z))]; exact h2
theorem pu_set {v w w' : Int32} {x : Sg} {k j : Nat} (e : w = w') (hn : ¬ (0 = k ∧ 22 = j)) : sst (sst x 0 22 v) k j w = sst (sst x k j w') 0 22 v := by
  rw [e]; exact sst_comm x _ _ hn
theorem pu_i {v : Int32} {x x' : Int32} {f g : Int32 → Sg} (e : x = x') (k : ∀ x, f x = sst (g x) 0 22 v) : lt x f = sst (lt x' g) 0 22 v := by subst e; exact k x
theorem x5_22 (s : Sg) (v : Int32) : x5_cycle (sst s 0 22 v) = sst (x5_cycle s) 0 22 v := by
  unfold x5_cycle
  refine pu_lt (pu_set rfl (by decide)) (fun s => ?_)
  refine pu_ite Iff.rfl rfl ?_
  refine pu_lt (pu_ite Iff.rfl ?_ ?_) (fun s => ?_)
  · refine pu_lt (pu_set rfl (by decide)) (fun s => ?_)
    exact pu_ite Iff.rfl (pu_lt (pu_set rfl (by decide)) (fun s => rfl)) rfl
  · exact pu_lt (pu_set rfl (by decide)) (fun s => rfl)
  · refine pu_lt (pu_ite Iff.rfl ?_ rfl) (fun s => rfl)
    exact pu_lt (pu_set rfl (by decide)) (fun s => rfl)
theorem x6r_22 (s : Sg) (v : Int32) : x6_receive (sst s 0 22 v) = sst (x6_receive s) 0 22 v := by
  unfold x6_receive
  refine pu_ite Iff.rfl (pu_ite Iff.rfl rfl ?_) ?_
  · refine pu_lt (pu_set rfl (by decide)) (fun s => ?_)
    refine pu_lt (pu_set rfl (by decide)) (fun s => ?_)
    refine pu_lt (pu_set rfl (by decide)) (fun s => ?_)
    exact pu_lt (pu_set rfl (by decide)) (fun s => rfl)
  · refine pu_lt (pu_set rfl (by decide)) (fun s => ?_)
    refine pu_ite Iff.rfl rfl ?_
    refine pu_lt (pu_ite Iff.rfl ?_ ?_) (fun s => rfl)
    · exact pu_lt (pu_set rfl (by decide)) (fun s => rfl)
    · refine pu_lt (pu_ite Iff.rfl ?_ ?_) (fun s => ?_)
      · exact pu_lt (pu_set rfl (by decide)) (fun s => rfl)
      · exact pu_lt (pu_set rfl (by decide)) (fun s => rfl)
      · exact pu_lt (pu_set rfl (by decide)) (fun s => rfl)
theorem x6a_22 (s : Sg) (v : Int32) : x6a (sst s 0 22 v) = sst (x6a s) 0 22 v := by
  unfold x6a
  refine pu_ite Iff.rfl (pu_ite Iff.rfl rfl ?_) ?_
  · refine pu_lt (pu_set rfl (by decide)) (fun s => ?_)
    refine pu_lt (pu_set rfl (by decide)) (fun s => ?_)
    exact pu_lt (pu_set rfl (by decide)) (fun s => rfl)
  · refine pu_lt (pu_set rfl (by decide)) (fun s => ?_)
    refine pu_ite Iff.rfl ?_ rfl
    refine pu_lt (pu_ite Iff.rfl ?_ rfl) (fun s => ?_)
    · exact pu_lt (pu_set rfl (fun q => absurd q.1 (by decide))) (fun s => rfl)
    · refine pu_lt (pu_set rfl (by decide)) (fun s => ?_)
      refine pu_ite Iff.rfl ?_ rfl
      exact pu_lt (pu_set rfl (by decide)) (fun s => rfl)
theorem x65_22 (s : Sg) (v : Int32) : x6_cycle (x5_cycle (sst s 0 22 v)) = sst (x6_cycle (x5_cycle s)) 0 22 v := by
  rw [x5_22, x6c_eq, x6c_eq, x6a_22, x6r_22]
theorem x65_get (s : Sg) : (x6_cycle (x5_cycle s)) 0 22 = s 0 22 := by
  have h := x65_22 s (s 0 22)
  rw [sst_id] at h
  rw [h, sst_eq]
theorem x7b_sst (s : Sg) : x7b s = sst s 0 22 (if 0 < s 0 22 then s 0 22 - 1 else s 0 22) := by
  unfold x7b
  by_cases q : 0 < s 0 22
  · rw [if_pos q, if_pos q]
  · rw [if_neg q, if_neg q, sst_id]
theorem x65_7b (s : Sg) : x6_cycle (x5_cycle (x7b s)) = x7b (x6_cycle (x5_cycle s)) := by
  rw [x7b_sst, x65_22, x7b_sst, x65_get]
theorem ok_x7a {σ : Sg} (ok : XOK σ) : XOK (x7a σ) := by
  unfold x7a
  by_cases q : 0 < σ 0 21
  · rw [if_pos q]; exact xst_f0_21 ok
  · rw [if_neg q]; exact ok
theorem ok_x7b {σ : Sg} (ok : XOK σ) : XOK (x7b σ) := by
  unfold x7b
  by_cases q : 0 < σ 0 22
  · rw [if_pos q]; exact xst_f0_22 ok
  · rw [if_neg q]; exact ok
theorem ok_x6a {σ : Sg} (ok : XOK σ) : XOK (x6a σ) := by
  unfold x6a
  by_cases p : σ 0 13 = 0
  · rw [if_pos p]
    by_cases q : σ 0 11 < 0
    · rw [if_pos q]; exact ok
    · rw [if_neg q]
      have h1 : XOK (sst σ 0 12 (σ 0 11)) := xst_f0_12 ok
      have h2 : XOK (sst (sst σ 0 12 (σ 0 11)) 0 11 (-1)) := xst_gen h1 (by unfold xrng; simp; exact ⟨by decide +kernel, by decide +kernel⟩)
      exact xst_f0_13 h2
  · rw [if_neg p]
    have h1 : XOK (sst σ 0 13 ((σ 0 13) - 1)) := xst_f0_13 ok
    rw [lt_g (sst σ 0 13 ((σ 0 13) - 1))]
    revert h1
    generalize sst σ 0 13 ((σ 0 13) - 1) = s
    intro h1
    by_cases q : s 0 13 = 0
    · rw [if_pos q]
      have h2 : XOK (if (s 0 20) < 1000 then lt (sst s 4 ((s 0 20)).toNatClampNeg (s 0 12)) fun s77 => s77 else s) := by
        by_cases w : (s 0 20) < 1000
        · rw [if_pos w]; exact xst_gen h1 (by unfold xrng; simp)
        · rw [if_neg w]; exact h1
      revert h2
      generalize (if (s 0 20) < 1000 then lt (sst s 4 ((s 0 20)).toNatClampNeg (s 0 12)) fun s77 => s77 else s) = s2
      intro h2
      rw [lt_g s2]
      have h3 : XOK (sst s2 0 20 ((s2 0 20) + 1)) := xst_gen h2 (by unfold xrng; simp)
      rw [lt_g (sst s2 0 20 ((s2 0 20) + 1))]
      by_cases w : (sst s2 0 20 ((s2 0 20) + 1)) 0 11 < 0
      · rw [if_pos w]; exact xst_gen h3 (by unfold xrng; simp; exact rg_w rl_1 (by decide) (by decide))
      · rw [if_neg w]; exact h3
    · rw [if_neg q]; exact h1
theorem ok_x6c {σ : Sg} (ok : XOK σ) : XOK (x6_cycle σ) := by rw [x6c_eq]; exact ok_x6_receive _ (ok_x6a ok)
/-- all of the board's cycle but its watchdog -/
def x2c (σ : Sg) : Sg := x6_cycle (x5_cycle (x7_cycle (x9_cycle (x8_shorter (x10_cycle (sst σ 0 2 ((σ 0 2) + 1)))))))
theorem ok_x2c {σ : Sg} (ok : XOK σ) : XOK (x2c σ) := ok_x6c (ok_x5_cycle _ (ok_x7_cycle _ (ok_x9_cycle _ (ok_x8_shorter _ (ok_x10_cycle _ (xst_f0_2 ok))))))
theorem R_x2c {b : Bool} {σ τ : Sg} (h : R b σ τ) (ok : XOK σ) : R b (x2c σ) (blk 22 63 253 (m_line (m_timer (m_windows (sst τ 0 2 ((τ 0 2) + 1)))))) := by
  unfold x2c
  have h0 : R b (sst σ 0 2 ((σ 0 2) + 1)) (sst τ 0 2 ((τ 0 2) + 1)) := R_scal h (by rw [h.sc 2 rfl]) rfl (fun q => by cases q)
  have o0 : XOK (sst σ 0 2 ((σ 0 2) + 1)) := xst_f0_2 ok
  rw [x7_eq, x65_7b, m_windows_eq]
  revert h0 o0
  generalize sst σ 0 2 ((σ 0 2) + 1) = s
  generalize sst τ 0 2 ((τ 0 2) + 1) = t
  intro h0 o0
  have h1 := R_x10c h0 o0
  have o1 := ok_x10_cycle _ o0
  have h2 := R_x8s h1 o1
  have o2 := ok_x8_shorter _ o1
  have h3 := R_x9c h2
  have o3 := ok_x9_cycle _ o2
  have h4 := R_x7a h3
  have o4 := ok_x7a o3
  have h5 := R_timer h4 o4
  have o5 := ok_x5_cycle _ o4
  have h6 := R_linec h5 o5 (ok_x6a o5)
  exact R_x7b h6
theorem passes_eq (τ : Sg) : m_passes τ = m_dog (blk 22 63 253 (m_line (m_timer (m_windows (sst τ 0 2 ((τ 0 2) + 1)))))) := by
  unfold m_passes
  rw [lt_g (sst τ 0 2 ((τ 0 2) + 1)), lt_g (m_windows _), lt_g (m_timer _), lt_g (m_line _)]
  rw [blk_m]
  rfl
theorem passL_eq (n : Nat) (σ : Sg) (x1 v2 : Int32) : x2_passL (n + 1) σ x1 v2 = if v2 < x1 then (if (x8_cycle (x2c σ)) 0 30 = 0 then x2_passL n (x8_cycle (x2c σ)) x1 (v2 + 1) else (v2 + 1, x2_reset (sst (x8_cycle (x2c σ)) 0 5 (((x8_cycle (x2c σ)) 0 5) + 1)) 3)) else (v2, σ) := rfl
theorem stepL_eq (n : Nat) (σ : Sg) (v3 v4 v5 : Int32) : m_steppedL (n + 1) σ v3 v4 v5 = if v5 < v3 then (if (m_passes σ).1 = 0 then (((m_passes σ).2 0 2) - v4, (m_passes σ).2) else m_steppedL n (m_passes σ).2 v3 v4 (v5 + 1)) else ((σ 0 2) - v4, σ) := rfl
theorem sub_step {a b c : Int32} (h : a - b = c) : a + nI 1 - b = c + 1 := by
  rw [← h]
  show a + 1 - b = a - b + 1
  rw [Int32.sub_eq_add_neg, Int32.sub_eq_add_neg, Int32.add_assoc, Int32.add_comm 1, ← Int32.add_assoc]
theorem R_passL {b : Bool} (x1 v4 : Int32) : ∀ (n : Nat) (σ τ : Sg) (v2 : Int32), R b σ τ → XOK σ → (τ 0 2) - v4 = v2 → RP b (x2_passL n σ x1 v2) (m_steppedL n τ x1 v4 v2) := by
  intro n
  induction n with
  | zero => intro σ τ v2 h ok e; exact ⟨e.symm, h⟩
  | succ n ih =>
    intro σ τ v2 h ok e
    rw [passL_eq, stepL_eq]
    refine ite_P (fun _ => ?_) (fun _ => ⟨e.symm, h⟩)
    have h1 := R_x2c h ok
    have o1 := ok_x2c ok
    have hd := R_dog h1 (xr_1 o1 96)
    unfold DogR at hd
    rw [← passes_eq] at hd
    have kc := kc_m_passes τ
    have e2 : ((m_passes τ).2 0 2) - v4 = v2 + 1 := by rw [kc]; exact sub_step e
    rcases hd with ⟨d1, d2, d3⟩ | ⟨d1, d2, d3⟩
    · rw [if_pos d2, if_neg (by rw [d1]; decide)]
      exact ih _ _ _ d3 (ok_x8_cycle _ o1) e2
    · rw [if_neg d2, if_pos d1]
      exact ⟨e2.symm, d3⟩
