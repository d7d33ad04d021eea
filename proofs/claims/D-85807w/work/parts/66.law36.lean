/-! PLAIN LAW 36: the calls from outside, 2 -/
set_option maxRecDepth 100000
theorem mload_same (τ : Sg) {x : Int32} (h : ¬ x = 198) : m_load τ x = (m_seen τ x, τ) := by
  unfold m_load
  refine lt_l ?_
  rw [if_neg h]
  rfl
theorem I_data {B m : Int} {σ τ : Sg} (h : IV B m σ τ) {x1 : Int32} (hx : rg 0 1279 x1) : (x1_data σ x1).1 = (m_data τ x1).1 ∧ IV B m (x1_data σ x1).2 (m_data τ x1).2 := by
  have h2 := IV_35 h (v := 0) (rg_w rl_0 (by decide) (by decide))
  have eM : m_data τ x1 = (m_seen (sst τ 0 35 0) x1, sst τ 0 35 0) := by
    unfold m_data
    rw [if_pos ⟨nneg hx, by rw [i_lt, show (1280 : Int32).toInt = 1280 by decide +kernel]; have := hx.2; omega⟩]
    rfl
  have eX : x1_data σ x1 = if x1 = 198 then (if 0 < σ 0 18 then σ 0 16 else 0, σ) else x2_load σ x1 := by
    unfold x1_data
    refine lt_l ?_
    have e0 : x1_there σ 1 = σ := rfl
    rw [e0]
    by_cases q : x1 = 198
    · rw [if_pos q, if_pos q]
      by_cases p : 0 < σ 0 18
      · rw [if_pos p, if_pos p]; rfl
      · rw [if_neg p, if_neg p]; rfl
    · rw [if_neg q, if_neg q]; rfl
  have oX := ok_x1_data σ x1 h.2.1 hx
  have kX := kp_x1_data σ x1 (ka := σ 0 20) (kb := σ 0 13) ⟨rfl, rfl, h.2.2.2.1.2⟩ (by decide)
  have key : (x1_data σ x1).1 = (m_data τ x1).1 ∧ R false (x1_data σ x1).2 (m_data τ x1).2 := by
    rw [eM, eX]
    revert h2
    generalize sst τ 0 35 0 = t
    intro h2
    by_cases q : x1 = 198
    · rw [if_pos q]
      refine ⟨?_, h2.1⟩
      subst q
      show (if 0 < σ 0 18 then σ 0 16 else 0) = m_seen t 198
      have e : m_seen t 198 = if 0 < t 0 18 then t 0 16 else 0 := rfl
      rw [e, h2.1.sc 18 rfl, h2.1.sc 16 rfl]
    · rw [if_neg q]
      have hl := R_load h2.1 (a := x1) (rg_w hx (by decide) (by decide))
      rw [mload_same t q] at hl
      exact hl
  refine ⟨key.1, key.2, oX.1, ?_, HBm.kp h.2.2.2.1 kX, ?_, h.2.2.2.2.2⟩
  · rw [eM]; exact h2.2.2.1
  · rw [eM]; exact h2.2.2.2.2.1
theorem put_int {x1 : Int32} (hP : ¬ (((x1 < 0) ∨ (¬ (x1 < 32))) ∧ (((x1 < 93) ∨ (95 < x1)) ∧ ((x1 < 256) ∨ (¬ (x1 < 1280)))))) : (0 ≤ x1.toInt ∧ x1.toInt < 32) ∨ (93 ≤ x1.toInt ∧ x1.toInt ≤ 95) ∨ (256 ≤ x1.toInt ∧ x1.toInt < 1280) := by
  rw [i_lt, i_lt, i_lt, i_lt, i_lt, i_lt, ti0, ti256, show (32 : Int32).toInt = 32 by decide +kernel, show (93 : Int32).toInt = 93 by decide +kernel, show (95 : Int32).toInt = 95 by decide +kernel, show (1280 : Int32).toInt = 1280 by decide +kernel] at hP
  omega
theorem I_put {B m : Int} {σ τ : Sg} (h : IV B m σ τ) {x1 : Int32} (x2 : Int32) (hP : ¬ (((x1 < 0) ∨ (¬ (x1 < 32))) ∧ (((x1 < 93) ∨ (95 < x1)) ∧ ((x1 < 256) ∨ (¬ (x1 < 1280)))))) : IV B m (x1_put σ x1 x2) (m_put τ x1 x2) := by
  have h2 := IV_35 h (v := 0) (rg_w rl_0 (by decide) (by decide))
  have eX : x1_put σ x1 x2 = sst σ 1 x1.toNatClampNeg (x2 &&& 255) := rfl
  have eM : m_put τ x1 x2 = sst (sst τ 0 35 0) 1 x1.toNatClampNeg (x2 &&& 255) := by
    unfold m_put
    rw [if_neg hP]
    rfl
  rw [eX, eM]
  have hi := put_int hP
  have hr : rg 0 1279 x1 := ⟨by omega, by omega⟩
  have hj := (rg_nI hr).2
  have n1 : ∀ n : Nat, n < 32 ∨ (93 ≤ n ∧ n ≤ 95) ∨ (256 ≤ n ∧ n < 1280) ∨ x1.toNatClampNeg ≠ n := by intro n; omega
  have r255 : rg 0 255 (x2 &&& 255) := rg_and_r (rg_w rl_255 (by decide) (by decide))
  refine IV_set h2 (R_da h2.1 ?_ (fun q => ?_) (fun q => ?_) (fun q => ?_) (fun q => ?_) (fun q => ?_) (fun q1 q2 q3 => ?_)) (xst_1 h2.2.1 r255) (xst_1 h2.2.2.1 r255) ⟨rfl, rfl, rfl⟩ ⟨rfl, rfl, rfl⟩
  · unfold okj; simp; omega
  · exfalso; omega
  · exfalso; omega
  · exfalso; omega
  · exfalso; omega
  · exfalso; omega
  · exfalso
    have : x1.toNatClampNeg = 93 ∨ x1.toNatClampNeg = 94 ∨ x1.toNatClampNeg = 95 := by omega
    rcases this with q | q | q <;> rw [q] at q3 <;> cases q3
theorem I_reset {B m : Int} {σ τ : Sg} (h : IV B m σ τ) (hm : m ≤ 1490000000) : IV B m (x1_reset σ) (m_reset τ) := by
  have h2 := IV_35 h (v := 0) (rg_w rl_0 (by decide) (by decide))
  have kX := hm_x1_reset σ h.2.2.2.1 (by decide)
  have kM := hm_m_reset τ h.2.2.2.2.1 (by omega)
  have key : R false (x1_reset σ) (m_reset τ) := by
    unfold x1_reset m_reset
    refine ltr_R ?_
    rw [← h2.1.sc 8 rfl]
    by_cases q : σ 0 8 = 0
    · rw [if_pos q, if_pos q]; exact ltl_R (ltr_R h2.1)
    · rw [if_neg q, if_neg q]
      refine ltl_R (ltl_R (ltr_R (ltr_R ?_)))
      have hr := R_reset h2.1 (σ 0 30) (x1 := 1) (m := 2) (by decide) (by decide) (by decide)
      rw [sst_id] at hr
      exact hr
  exact ⟨key, ok_x1_reset σ h.2.1, ok_m_reset τ h.2.2.1, kX, kM, h.2.2.2.2.2⟩
theorem iter_out : ∀ (n i : Nat) (σ : Sg), i + n ≤ 1280 → iterN n i (fun i a => lt ((if (¬ ((nI i) < 32)) ∧ ((nI i) < 256) then a else lt (sst a 1 ((nI i)).toNatClampNeg 0) fun s51 => s51) : Sg) fun z35 => z35) σ = fun a j => if a = 1 ∧ (i ≤ j ∧ j < i + n) ∧ (j < 32 ∨ 256 ≤ j) then 0 else σ a j := by
  intro n
  induction n with
  | zero => intro i σ _; funext a j; show σ a j = _; rw [if_neg (by omega)]
  | succ n ih =>
    intro i σ hi
    have ei : (nI i).toInt = (i : Int) := nI_toInt (by omega)
    have c : ((¬ ((nI i) < 32)) ∧ ((nI i) < 256)) ↔ (32 ≤ i ∧ i < 256) := by
      rw [i_lt, i_lt, ei, ti256, show (32 : Int32).toInt = 32 by decide +kernel]; omega
    have e : (lt ((if (¬ ((nI i) < 32)) ∧ ((nI i) < 256) then σ else lt (sst σ 1 ((nI i)).toNatClampNeg 0) fun s51 => s51) : Sg) fun z35 => z35) = if 32 ≤ i ∧ i < 256 then σ else sst σ 1 i 0 := by
      refine lt_l ?_
      by_cases q : 32 ≤ i ∧ i < 256
      · rw [if_pos q, if_pos (c.mpr q)]
      · rw [if_neg q, if_neg (fun z => q (c.mp z)), tn_nI (by omega)]; rfl
    show iterN n (i + 1) _ (lt ((if (¬ ((nI i) < 32)) ∧ ((nI i) < 256) then σ else lt (sst σ 1 ((nI i)).toNatClampNeg 0) fun s51 => s51) : Sg) fun z35 => z35) = _
    rw [e, ih (i + 1) _ (by omega)]
    funext a j
    by_cases q : 32 ≤ i ∧ i < 256
    · rw [if_pos q]
      by_cases p : a = 1 ∧ (i + 1 ≤ j ∧ j < i + 1 + n) ∧ (j < 32 ∨ 256 ≤ j)
      · rw [if_pos p, if_pos ⟨p.1, by omega, by omega⟩]
      · rw [if_neg p, if_neg (fun z => p ⟨z.1, by omega, by omega⟩)]
    · rw [if_neg q, sst_get]
      by_cases p : a = 1 ∧ (i + 1 ≤ j ∧ j < i + 1 + n) ∧ (j < 32 ∨ 256 ≤ j)
      · rw [if_pos p, if_pos (c := a = 1 ∧ (i ≤ j ∧ j < i + (n + 1)) ∧ (j < 32 ∨ 256 ≤ j)) ⟨p.1, by omega, by omega⟩]
      · rw [if_neg p]
        by_cases w : a = 1 ∧ j = i
        · rw [if_pos w, if_pos (c := a = 1 ∧ (i ≤ j ∧ j < i + (n + 1)) ∧ (j < 32 ∨ 256 ≤ j)) ⟨w.1, by omega, by omega⟩]
        · rw [if_neg w, if_neg (c := a = 1 ∧ (i ≤ j ∧ j < i + (n + 1)) ∧ (j < 32 ∨ 256 ≤ j)) (fun z => by
            by_cases e1 : j = i
            · exact w ⟨z.1, e1⟩
            · exact p ⟨z.1, by omega, by omega⟩)]
theorem I_power {B m : Int} {σ τ : Sg} (h : IV B m σ τ) {x1 : Int32} (hx : rg 0 1 x1) (hm : m ≤ 1490000000) : (x1_power σ x1).1 = (m_power τ x1).1 ∧ IV B m (x1_power σ x1).2 (m_power τ x1).2 := by
  have h2 := IV_35 h (v := 0) (rg_w rl_0 (by decide) (by decide))
  have kX := hm_x1_power σ x1 h.2.2.2.1 (by decide)
  have kM := hm_m_power τ x1 h.2.2.2.2.1 (by omega)
  have oX := ok_x1_power σ x1 h.2.1 hx
  have oM := ok_m_power τ x1 h.2.2.1 hx
  have key : RP false (x1_power σ x1) (m_power τ x1) := by
    unfold x1_power m_power
    refine ltr_P ?_
    have h8 : R false (sst σ 0 8 x1) (sst (sst τ 0 35 0) 0 8 x1) := R_scal h2.1 rfl rfl (fun q => by cases q)
    rw [← h2.1.sc 8 rfl]
    refine ltl_P (ltr_P ?_)
    refine ltl_P (ltr_P ?_)
    refine ltS_P ?_ (fun s t h => RP_i rfl h)
    refine ite_R (fun _ => h8) (fun _ => ?_)
    rw [iter_out 1280 0 _ (by decide)]
    refine ltl_R (ltr_R (ltr_R ?_))
    rw [reset_0, restart_eq, if_pos (show (1 : Int32) = 1 from rfl)]
    revert h8
    generalize sst σ 0 8 x1 = s
    generalize sst (sst τ 0 35 0) 0 8 x1 = t
    intro h8
    refine R_rst h8 1 ?_ ?_ ?_ ?_ ?_ ?_
    · intro j hj
      show (if (0 : Nat) = 1 ∧ 0 ≤ j ∧ j < 0 + 1280 then (0 : Int32) else s 0 j) = s 0 j
      rw [if_neg (by omega)]
    · intro j
      show (if (0 : Nat) = 1 ∧ (0 ≤ j ∧ j < 0 + 1280) ∧ (j < 32 ∨ 256 ≤ j) then (0 : Int32) else t 0 j) = t 0 j
      rw [if_neg (by omega)]
    · intro j hj
      show (if (1 : Nat) = 1 ∧ 0 ≤ j ∧ j < 0 + 1280 then (0 : Int32) else s 1 j) = (if (1 : Nat) = 1 ∧ (0 ≤ j ∧ j < 0 + 1280) ∧ (j < 32 ∨ 256 ≤ j) then (0 : Int32) else t 1 j)
      by_cases q : j < 1280
      · rw [if_pos (by omega), if_pos (by omega)]
      · rw [if_neg (by omega), if_neg (by omega)]
        exact h8.da j (by unfold okj; simp; omega)
    · intro j h1 h3
      show (if (1 : Nat) = 1 ∧ 0 ≤ j ∧ j < 0 + 1280 then (0 : Int32) else s 1 j) = 0
      rw [if_pos (by omega)]
    · intro a ha
      funext j
      show (if a = 1 ∧ 0 ≤ j ∧ j < 0 + 1280 then (0 : Int32) else s a j) = s a j
      rw [if_neg (by omega)]
    · intro a ha
      funext j
      show (if a = 1 ∧ (0 ≤ j ∧ j < 0 + 1280) ∧ (j < 32 ∨ 256 ≤ j) then (0 : Int32) else t a j) = t a j
      rw [if_neg (by omega)]
  exact ⟨key.1, key.2, oX.1, oM.1, kX, kM, h.2.2.2.2.2⟩
theorem R_filled {b : Bool} {σ τ : Sg} (h : R b σ τ) : x10_filled σ = iterN 32 0 (fun i178_1 a178_1 => lt ((if (τ 7 ((nI i178_1)).toNatClampNeg) = 0 then 0 else 1) : Int32) fun z191 => lt ((a178_1 + z191) : Int32) fun v200 => v200) (0 : Int32) := by
  unfold x10_filled
  refine lt_l ?_
  refine iter_rel (fun x y => x = y) (N := 32) ?_ 32 0 0 0 (by decide) rfl
  intro i a c hi e
  subst e
  have hb := h.bu i hi
  show a + (if (σ 5 ((nI i)).toNatClampNeg) < 0 then 0 else 1) = a + (if (τ 7 ((nI i)).toNatClampNeg) = 0 then 0 else 1)
  rw [tn_nI (by omega)]
  rcases hb with ⟨q1, q2⟩ | ⟨q1, q2, _⟩
  · rw [if_pos q1, if_pos q2]
  · rw [if_neg q1, if_neg (by rw [q2]; decide)]
theorem I_about {B m : Int} {σ τ : Sg} (h : IV B m σ τ) {x1 : Int32} (hx : rg 0 21 x1) : x1_about σ x1 = (m_about τ x1).1 ∧ IV B m σ (m_about τ x1).2 := by
  have h2 := IV_35 h (v := 0) (rg_w rl_0 (by decide) (by decide))
  have key : x1_about σ x1 = (m_about τ x1).1 ∧ (m_about τ x1).2 = sst τ 0 35 0 := by
    unfold x1_about m_about
    rw [if_neg (no_range (by decide +kernel) (by decide +kernel) hx), mright1]
    revert h2
    generalize sst τ 0 35 0 = t
    intro h2
    have hr := h2.1
    rw [lt_g ((1 : Int32), t)]
    show _ = (if x1 = 0 then _ else _ : Int32 × Sg).1 ∧ (if x1 = 0 then _ else _ : Int32 × Sg).2 = t
    by_cases c0 : x1 = 0
    · rw [if_pos c0, if_pos c0]; exact ⟨hr.sc 0 rfl, rfl⟩
    rw [if_neg c0, if_neg c0]
    by_cases c1 : x1 = 1
    · rw [if_pos c1, if_pos c1]; exact ⟨by rw [mptr93]; exact R_stack hr, rfl⟩
    rw [if_neg c1, if_neg c1]
    by_cases c2 : x1 = 2
    · rw [if_pos c2, if_pos c2]; exact ⟨by rw [hr.sc 6 rfl]; rfl, rfl⟩
    rw [if_neg c2, if_neg c2]
    by_cases c3 : x1 = 3
    · rw [if_pos c3, if_pos c3]; exact ⟨hr.sc 2 rfl, rfl⟩
    rw [if_neg c3, if_neg c3]
    by_cases c4 : x1 = 4
    · rw [if_pos c4, if_pos c4]; exact ⟨hr.sc 3 rfl, rfl⟩
    rw [if_neg c4, if_neg c4]
    by_cases c5 : x1 = 5
    · rw [if_pos c5, if_pos c5]; exact ⟨hr.sc 4 rfl, rfl⟩
    rw [if_neg c5, if_neg c5]
    by_cases c6 : x1 = 6
    · rw [if_pos c6, if_pos c6]; exact ⟨hr.sc 5 rfl, rfl⟩
    rw [if_neg c6, if_neg c6]
    by_cases c7 : x1 = 7
    · rw [if_pos c7, if_pos c7]; exact ⟨hr.sc 27 rfl, rfl⟩
    rw [if_neg c7, if_neg c7]
    by_cases c8 : x1 = 8
    · rw [if_pos c8, if_pos c8]; exact ⟨R_filled hr, rfl⟩
    rw [if_neg c8, if_neg c8]
    by_cases c9 : x1 = 9
    · rw [if_pos c9, if_pos c9]; exact ⟨hr.sc 24 rfl, rfl⟩
    rw [if_neg c9, if_neg c9]
    by_cases c10 : x1 = 10
    · rw [if_pos c10, if_pos c10]; exact ⟨hr.sc 10 rfl, rfl⟩
    rw [if_neg c10, if_neg c10]
    by_cases c11 : x1 = 11
    · rw [if_pos c11, if_pos c11]; exact ⟨hr.sc 19 rfl, rfl⟩
    rw [if_neg c11, if_neg c11]
    by_cases c12 : x1 = 12
    · rw [if_pos c12, if_pos c12]; exact ⟨hr.sc 18 rfl, rfl⟩
    rw [if_neg c12, if_neg c12]
    by_cases c13 : x1 = 13
    · rw [if_pos c13, if_pos c13]; exact ⟨hr.sc 13 rfl, rfl⟩
    rw [if_neg c13, if_neg c13]
    by_cases c14 : x1 = 14
    · rw [if_pos c14, if_pos c14]; exact ⟨hr.sc 15 rfl, rfl⟩
    rw [if_neg c14, if_neg c14]
    by_cases c15 : x1 = 15
    · rw [if_pos c15, if_pos c15]; exact ⟨hr.sc 22 rfl, rfl⟩
    rw [if_neg c15, if_neg c15]
    by_cases c16 : x1 = 16
    · rw [if_pos c16, if_pos c16]; exact ⟨hr.sc 26 rfl, rfl⟩
    rw [if_neg c16, if_neg c16]
    by_cases c17 : x1 = 17
    · rw [if_pos c17, if_pos c17]; exact ⟨hr.sc 23 rfl, rfl⟩
    rw [if_neg c17, if_neg c17]
    by_cases c18 : x1 = 18
    · rw [if_pos c18, if_pos c18]; exact ⟨hr.sc 25 rfl, rfl⟩
    rw [if_neg c18, if_neg c18]
    by_cases c19 : x1 = 19
    · rw [if_pos c19, if_pos c19]; exact ⟨hr.sc 21 rfl, rfl⟩
    rw [if_neg c19, if_neg c19]
    by_cases c20 : x1 = 20
    · rw [if_pos c20, if_pos c20]; exact ⟨by rw [hr.sc 8 rfl]; rfl, rfl⟩
    rw [if_neg c20, if_neg c20]
    have i21 : x1 = 21 := by
      have hh := hx.1; have hg := hx.2
      have g : ∀ (n : Nat) (c : Int32), c = nI n → n < 2 ^ 31 → ¬ x1 = c → x1.toInt ≠ (n : Int) := fun n c hc hn hne z => hne (i_eq.mpr (by rw [z, hc, nI_toInt hn]))
      have g0 := g 0 0 rfl (by decide) c0; have g1 := g 1 1 rfl (by decide) c1; have g2 := g 2 2 rfl (by decide) c2; have g3 := g 3 3 rfl (by decide) c3; have g4 := g 4 4 rfl (by decide) c4; have g5 := g 5 5 rfl (by decide) c5; have g6 := g 6 6 rfl (by decide) c6; have g7 := g 7 7 rfl (by decide) c7; have g8 := g 8 8 rfl (by decide) c8; have g9 := g 9 9 rfl (by decide) c9; have g10 := g 10 10 rfl (by decide) c10; have g11 := g 11 11 rfl (by decide) c11; have g12 := g 12 12 rfl (by decide) c12; have g13 := g 13 13 rfl (by decide) c13; have g14 := g 14 14 rfl (by decide) c14; have g15 := g 15 15 rfl (by decide) c15; have g16 := g 16 16 rfl (by decide) c16; have g17 := g 17 17 rfl (by decide) c17; have g18 := g 18 18 rfl (by decide) c18; have g19 := g 19 19 rfl (by decide) c19; have g20 := g 20 20 rfl (by decide) c20
      refine i_eq.mpr ?_
      rw [show (21 : Int32).toInt = 21 by decide +kernel]
      omega
    rw [if_pos i21]
    exact ⟨R_waits hr, rfl⟩
  rw [key.2]
  exact ⟨key.1, h2⟩
