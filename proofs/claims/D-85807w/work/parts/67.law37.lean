/-! PLAIN LAW 37: burn (printed by gen_law37.py) -/
set_option maxRecDepth 100000
def x1_burnL : Nat → Sg → Int32 → Int32 → Int32 → Int32 → Int32 → Int32 → Int32 → Int32 → Int32 × Sg
  | 0, σ, _, _, _, _, _, _, v7, _ => (v7, σ)
  | n + 1, σ, x1, x2, x3, x4, x5, x6, v7, v8 =>
    if (v8 < 10) ∧ ((x1 + v8) < 2048) then
      lt ((
        if v8 < 2 then
          x2
        else
          if v8 < 4 then
            x3
          else
            if v8 < 6 then
              x4
            else
              if v8 < 8 then
                x5
              else
                x6) : Int32) fun z45 =>
      lt ((
        if ((v8) - (v8) / (2) * (2)) = 0 then
          (z45 >>> (16 : Int32))
        else
          z45) : Int32) fun z108 =>
      lt (sst σ 2 ((x1 + v8)).toNatClampNeg ((z108).toUInt32 % 65536).toInt32) fun s122 =>
      lt ((v7 + 1) : Int32) fun v123 =>
      lt ((v8 + 1) : Int32) fun v126 =>
      x1_burnL n s122 x1 x2 x3 x4 x5 x6 v123 v126
    else
      (v7, σ)
set_option maxHeartbeats 4000000 in
theorem okb_x1_burnL (x1 x2 x3 x4 x5 x6 : Int32) (hx1 : rg 0 2047 x1) : ∀ (n : Nat) (σ : Sg) (v7 v8 : Int32), XOK σ → rg 0 10 v8 → 10 - v8.toInt < n → (Prt XOK) (x1_burnL n σ x1 x2 x3 x4 x5 x6 v7 v8) := by
  intro n
  induction n with
  | zero => intro σ v7 v8 ok hv8 hmz; exact ⟨ok, trivial⟩
  | succ n ih =>
    intro σ v7 v8 ok hv8 hmz
    rw [x1_burnL]
    refine ite_pred (fun c29 => ?_) (fun c29 => ?_)
    · refine jn_pred (fun z45 => True) (fun z45 h45 => ?_) ?_
      · refine jn_pred (fun z108 => True) (fun z108 h108 => ?_) ?_
        · refine lt_pred (fun s122 e122 => ?_)
          have k122 : XOK s122 := by rw [e122]; exact xst_2 ok (rg_i2c _)
          refine lt_pred (fun v123 e123 => ?_)
          refine lt_pred (fun v126 e126 => ?_)
          have f126 : rg 1 10 v126 := by rw [e126]; exact (rg_add (rg_lt_hi hv8 (c29).1 rl_10) rl_1 (by decide) (by decide))
          have e8 : v126 = v8 + 1 := e126
          have h8 := Int32.lt_iff_toInt_lt.mp c29.1
          have t10 : (10 : Int32).toInt = 10 := by decide +kernel
          have h1 : (v8 + 1).toInt = v8.toInt + 1 := toInt_add' (by show _ ≤ v8.toInt + (1 : Int); have := hv8.1; omega) (by show v8.toInt + (1 : Int) < _; have := hv8.2; omega)
          have hv1 := hv8.1
          exact ih s122 v123 v126 k122 (by rw [e8]; exact ⟨by omega, by omega⟩) (by rw [e8]; omega)
        · refine ite_pred (fun c108 => ?_) (fun c108 => ?_)
          · exact app_i trivial
          · exact app_i trivial
      · refine ite_pred (fun c45 => ?_) (fun c45 => ?_)
        · exact app_i trivial
        · refine ite_pred (fun c55 => ?_) (fun c55 => ?_)
          · exact app_i trivial
          · refine ite_pred (fun c66 => ?_) (fun c66 => ?_)
            · exact app_i trivial
            · refine ite_pred (fun c78 => ?_) (fun c78 => ?_)
              · exact app_i trivial
              · exact app_i trivial
    · exact ⟨ok, trivial⟩

def x1_burn (σ : Sg) (x1 x2 x3 x4 x5 x6 : Int32) : Int32 × Sg :=
  lt (x1_there σ 1) fun s16 =>
  x1_burnL 11 s16 x1 x2 x3 x4 x5 x6 0 0
set_option maxHeartbeats 4000000 in
theorem okb_x1_burn (σ : Sg) (x1 x2 x3 x4 x5 x6 : Int32) (ok : XOK σ) (hx1 : rg 0 2047 x1) : (Prt XOK) (x1_burn σ x1 x2 x3 x4 x5 x6) := by
  unfold x1_burn
  refine lt_pred (fun s16 e16 => ?_)
  have k16 : XOK s16 := by rw [e16]; exact ok_x1_there σ 1 ok rl_1
  exact okb_x1_burnL x1 x2 x3 x4 x5 x6 hx1 11 s16 0 0 k16 (rg_w rl_0 (by decide) (by decide)) (by have h9 : (0 : Int32).toInt = 0 := (by decide +kernel); omega)


theorem chr_lo (v : Int32) : ((v).toUInt32 % 65536).toInt32 = v &&& 65535 := by
  rw [pk_char, pk_and v 16 (m := 65535) (by decide +kernel)]
theorem ushr_hi (v : Int32) : (((v >>> (16 : Int32))).toUInt32 % 65536).toInt32 = ((v).toUInt32 >>> ((16 : Int32).toUInt32 &&& Int32.toUInt32 31)).toInt32 := by
  have h1 := pk_ushr v 16 16 (by decide +kernel)
  have h2 := shri v 16 16 (by decide +kernel)
  rw [show ((2 ^ 16 : Nat) : Int) = 65536 by decide] at h2
  have c1 := toInt_cases v
  have c2 := toInt_cases (v >>> (16 : Int32))
  rw [pk_char]
  apply Int32.toBitVec_inj.mp
  apply BitVec.eq_of_toNat_eq
  rw [h1]
  have e : (nI ((v >>> (16 : Int32)).toBitVec.toNat % 65536)).toBitVec.toNat = (v >>> (16 : Int32)).toBitVec.toNat % 65536 := by
    have := Nat.mod_lt (v >>> (16 : Int32)).toBitVec.toNat (show 65536 > 0 by decide)
    have t := nI_toInt (n := (v >>> (16 : Int32)).toBitVec.toNat % 65536) (by omega)
    have c3 := toInt_cases (nI ((v >>> (16 : Int32)).toBitVec.toNat % 65536))
    omega
  rw [e]
  omega
def mcB (a : Int32) : List Int32 → Sg → Int32 → Int32 × Sg
  | [], s, k => (k, s)
  | v :: vs, s, k => mcB a vs (m_burnt s a k v).2 (m_burnt s a k v).1
theorem burnt_stop {s : Sg} {a k v : Int32} (h : ¬ (a + k) < 2048) : m_burnt s a k v = (k, s) := by
  unfold m_burnt
  rw [if_neg h]
  refine lt_l ?_
  show lt (if (a + k) < 2048 then _ else _ : Int32 × Sg) _ = _
  rw [if_neg h]
  rfl
theorem mcB_stop {a : Int32} : ∀ (vs : List Int32) {s : Sg} {k : Int32}, ¬ (a + k) < 2048 → mcB a vs s k = (k, s) := by
  intro vs
  induction vs with
  | nil => intro s k _; rfl
  | cons v vs ih => intro s k h; show mcB a vs (m_burnt s a k v).2 (m_burnt s a k v).1 = _; rw [burnt_stop h]; exact ih h
theorem burnt_one {s : Sg} {a k v : Int32} (h : (a + k) < 2048) (h2 : ¬ (a + (k + 1)) < 2048) : m_burnt s a k v = (k + 1, sst s 2 (a + k).toNatClampNeg ((v).toUInt32 >>> ((16 : Int32).toUInt32 &&& Int32.toUInt32 31)).toInt32) := by
  unfold m_burnt
  rw [if_pos h]
  refine lt_l ?_
  show lt (if (a + (k + 1)) < 2048 then _ else _ : Int32 × Sg) _ = _
  rw [if_neg h2]
  rfl
theorem burnt_two {s : Sg} {a k v : Int32} (h : (a + k) < 2048) (h2 : (a + (k + 1)) < 2048) : m_burnt s a k v = (k + 1 + 1, sst (sst s 2 (a + k).toNatClampNeg ((v).toUInt32 >>> ((16 : Int32).toUInt32 &&& Int32.toUInt32 31)).toInt32) 2 (a + (k + 1)).toNatClampNeg (v &&& 65535)) := by
  unfold m_burnt
  rw [if_pos h]
  refine lt_l ?_
  show lt (if (a + (k + 1)) < 2048 then _ else _ : Int32 × Sg) _ = _
  rw [if_pos h2]
  rfl
theorem burnL_round (n : Nat) (s : Sg) (x1 x2 x3 x4 x5 x6 v7 v8 : Int32) {v w : Int32} (h1 : (v8 < 10) ∧ ((x1 + v8) < 2048)) (hv : (if v8 < 2 then x2 else if v8 < 4 then x3 else if v8 < 6 then x4 else if v8 < 8 then x5 else x6) = v) (hw : (if ((v8) - (v8) / (2) * (2)) = 0 then (v >>> (16 : Int32)) else v) = w) : x1_burnL (n + 1) s x1 x2 x3 x4 x5 x6 v7 v8 = x1_burnL n (sst s 2 (x1 + v8).toNatClampNeg ((w).toUInt32 % 65536).toInt32) x1 x2 x3 x4 x5 x6 (v7 + 1) (v8 + 1) := by
  rw [x1_burnL, if_pos h1, hv]
  refine lt_l ?_
  rw [hw]
  rfl
theorem burnL_end (n : Nat) (s : Sg) (x1 x2 x3 x4 x5 x6 v7 v8 : Int32) (h1 : ¬ ((v8 < 10) ∧ ((x1 + v8) < 2048))) : x1_burnL (n + 1) s x1 x2 x3 x4 x5 x6 v7 v8 = (v7, s) := by
  rw [x1_burnL, if_neg h1]
theorem burn_p5 (x1 x2 x3 x4 x5 x6 : Int32) (s : Sg) : x1_burnL 1 s x1 x2 x3 x4 x5 x6 10 10 = mcB x1 [] s 10 := burnL_end 0 s x1 x2 x3 x4 x5 x6 10 10 (fun z => absurd z.1 (by decide))
theorem burn_p4 (x1 x2 x3 x4 x5 x6 : Int32) (s : Sg) : x1_burnL 3 s x1 x2 x3 x4 x5 x6 8 8 = mcB x1 [x6] s 8 := by
  have e1 : (8 : Int32) + 1 = 9 := by decide
  have e2 : (9 : Int32) + 1 = 10 := by decide
  by_cases h : (x1 + 8) < 2048
  · rw [burnL_round 2 s x1 x2 x3 x4 x5 x6 8 8 (v := x6) ⟨by decide, h⟩ (by rw [if_neg (show ¬ (8 : Int32) < 2 by decide), if_neg (show ¬ (8 : Int32) < 4 by decide), if_neg (show ¬ (8 : Int32) < 6 by decide), if_neg (show ¬ (8 : Int32) < 8 by decide)]) (if_pos (show ((8 : Int32) - 8 / 2 * 2) = 0 by decide)), ushr_hi, e1]
    by_cases h2 : (x1 + 9) < 2048
    · rw [burnL_round 1 _ x1 x2 x3 x4 x5 x6 9 9 (v := x6) ⟨by decide, h2⟩ (by rw [if_neg (show ¬ (9 : Int32) < 2 by decide), if_neg (show ¬ (9 : Int32) < 4 by decide), if_neg (show ¬ (9 : Int32) < 6 by decide), if_neg (show ¬ (9 : Int32) < 8 by decide)]) (if_neg (show ¬ ((9 : Int32) - 9 / 2 * 2) = 0 by decide)), chr_lo, e2, burn_p5]
      show _ = mcB x1 [] (m_burnt s x1 8 x6).2 (m_burnt s x1 8 x6).1
      rw [burnt_two h (by rw [e1]; exact h2), e1, e2]
    · rw [burnL_end 1 _ x1 x2 x3 x4 x5 x6 9 9 (fun z => h2 z.2)]
      show _ = mcB x1 [] (m_burnt s x1 8 x6).2 (m_burnt s x1 8 x6).1
      rw [burnt_one h (by rw [e1]; exact h2), e1, mcB_stop _ h2]
  · rw [burnL_end 2 s x1 x2 x3 x4 x5 x6 8 8 (fun z => h z.2), mcB_stop _ h]
theorem burn_p3 (x1 x2 x3 x4 x5 x6 : Int32) (s : Sg) : x1_burnL 5 s x1 x2 x3 x4 x5 x6 6 6 = mcB x1 [x5, x6] s 6 := by
  have e1 : (6 : Int32) + 1 = 7 := by decide
  have e2 : (7 : Int32) + 1 = 8 := by decide
  by_cases h : (x1 + 6) < 2048
  · rw [burnL_round 4 s x1 x2 x3 x4 x5 x6 6 6 (v := x5) ⟨by decide, h⟩ (by rw [if_neg (show ¬ (6 : Int32) < 2 by decide), if_neg (show ¬ (6 : Int32) < 4 by decide), if_neg (show ¬ (6 : Int32) < 6 by decide), if_pos (show (6 : Int32) < 8 by decide)]) (if_pos (show ((6 : Int32) - 6 / 2 * 2) = 0 by decide)), ushr_hi, e1]
    by_cases h2 : (x1 + 7) < 2048
    · rw [burnL_round 3 _ x1 x2 x3 x4 x5 x6 7 7 (v := x5) ⟨by decide, h2⟩ (by rw [if_neg (show ¬ (7 : Int32) < 2 by decide), if_neg (show ¬ (7 : Int32) < 4 by decide), if_neg (show ¬ (7 : Int32) < 6 by decide), if_pos (show (7 : Int32) < 8 by decide)]) (if_neg (show ¬ ((7 : Int32) - 7 / 2 * 2) = 0 by decide)), chr_lo, e2, burn_p4]
      show _ = mcB x1 [x6] (m_burnt s x1 6 x5).2 (m_burnt s x1 6 x5).1
      rw [burnt_two h (by rw [e1]; exact h2), e1, e2]
    · rw [burnL_end 3 _ x1 x2 x3 x4 x5 x6 7 7 (fun z => h2 z.2)]
      show _ = mcB x1 [x6] (m_burnt s x1 6 x5).2 (m_burnt s x1 6 x5).1
      rw [burnt_one h (by rw [e1]; exact h2), e1, mcB_stop _ h2]
  · rw [burnL_end 4 s x1 x2 x3 x4 x5 x6 6 6 (fun z => h z.2), mcB_stop _ h]
theorem burn_p2 (x1 x2 x3 x4 x5 x6 : Int32) (s : Sg) : x1_burnL 7 s x1 x2 x3 x4 x5 x6 4 4 = mcB x1 [x4, x5, x6] s 4 := by
  have e1 : (4 : Int32) + 1 = 5 := by decide
  have e2 : (5 : Int32) + 1 = 6 := by decide
  by_cases h : (x1 + 4) < 2048
  · rw [burnL_round 6 s x1 x2 x3 x4 x5 x6 4 4 (v := x4) ⟨by decide, h⟩ (by rw [if_neg (show ¬ (4 : Int32) < 2 by decide), if_neg (show ¬ (4 : Int32) < 4 by decide), if_pos (show (4 : Int32) < 6 by decide)]) (if_pos (show ((4 : Int32) - 4 / 2 * 2) = 0 by decide)), ushr_hi, e1]
    by_cases h2 : (x1 + 5) < 2048
    · rw [burnL_round 5 _ x1 x2 x3 x4 x5 x6 5 5 (v := x4) ⟨by decide, h2⟩ (by rw [if_neg (show ¬ (5 : Int32) < 2 by decide), if_neg (show ¬ (5 : Int32) < 4 by decide), if_pos (show (5 : Int32) < 6 by decide)]) (if_neg (show ¬ ((5 : Int32) - 5 / 2 * 2) = 0 by decide)), chr_lo, e2, burn_p3]
      show _ = mcB x1 [x5, x6] (m_burnt s x1 4 x4).2 (m_burnt s x1 4 x4).1
      rw [burnt_two h (by rw [e1]; exact h2), e1, e2]
    · rw [burnL_end 5 _ x1 x2 x3 x4 x5 x6 5 5 (fun z => h2 z.2)]
      show _ = mcB x1 [x5, x6] (m_burnt s x1 4 x4).2 (m_burnt s x1 4 x4).1
      rw [burnt_one h (by rw [e1]; exact h2), e1, mcB_stop _ h2]
  · rw [burnL_end 6 s x1 x2 x3 x4 x5 x6 4 4 (fun z => h z.2), mcB_stop _ h]
theorem burn_p1 (x1 x2 x3 x4 x5 x6 : Int32) (s : Sg) : x1_burnL 9 s x1 x2 x3 x4 x5 x6 2 2 = mcB x1 [x3, x4, x5, x6] s 2 := by
  have e1 : (2 : Int32) + 1 = 3 := by decide
  have e2 : (3 : Int32) + 1 = 4 := by decide
  by_cases h : (x1 + 2) < 2048
  · rw [burnL_round 8 s x1 x2 x3 x4 x5 x6 2 2 (v := x3) ⟨by decide, h⟩ (by rw [if_neg (show ¬ (2 : Int32) < 2 by decide), if_pos (show (2 : Int32) < 4 by decide)]) (if_pos (show ((2 : Int32) - 2 / 2 * 2) = 0 by decide)), ushr_hi, e1]
    by_cases h2 : (x1 + 3) < 2048
    · rw [burnL_round 7 _ x1 x2 x3 x4 x5 x6 3 3 (v := x3) ⟨by decide, h2⟩ (by rw [if_neg (show ¬ (3 : Int32) < 2 by decide), if_pos (show (3 : Int32) < 4 by decide)]) (if_neg (show ¬ ((3 : Int32) - 3 / 2 * 2) = 0 by decide)), chr_lo, e2, burn_p2]
      show _ = mcB x1 [x4, x5, x6] (m_burnt s x1 2 x3).2 (m_burnt s x1 2 x3).1
      rw [burnt_two h (by rw [e1]; exact h2), e1, e2]
    · rw [burnL_end 7 _ x1 x2 x3 x4 x5 x6 3 3 (fun z => h2 z.2)]
      show _ = mcB x1 [x4, x5, x6] (m_burnt s x1 2 x3).2 (m_burnt s x1 2 x3).1
      rw [burnt_one h (by rw [e1]; exact h2), e1, mcB_stop _ h2]
  · rw [burnL_end 8 s x1 x2 x3 x4 x5 x6 2 2 (fun z => h z.2), mcB_stop _ h]
theorem burn_p0 (x1 x2 x3 x4 x5 x6 : Int32) (s : Sg) : x1_burnL 11 s x1 x2 x3 x4 x5 x6 0 0 = mcB x1 [x2, x3, x4, x5, x6] s 0 := by
  have e1 : (0 : Int32) + 1 = 1 := by decide
  have e2 : (1 : Int32) + 1 = 2 := by decide
  by_cases h : (x1 + 0) < 2048
  · rw [burnL_round 10 s x1 x2 x3 x4 x5 x6 0 0 (v := x2) ⟨by decide, h⟩ (by rw [if_pos (show (0 : Int32) < 2 by decide)]) (if_pos (show ((0 : Int32) - 0 / 2 * 2) = 0 by decide)), ushr_hi, e1]
    by_cases h2 : (x1 + 1) < 2048
    · rw [burnL_round 9 _ x1 x2 x3 x4 x5 x6 1 1 (v := x2) ⟨by decide, h2⟩ (by rw [if_pos (show (1 : Int32) < 2 by decide)]) (if_neg (show ¬ ((1 : Int32) - 1 / 2 * 2) = 0 by decide)), chr_lo, e2, burn_p1]
      show _ = mcB x1 [x3, x4, x5, x6] (m_burnt s x1 0 x2).2 (m_burnt s x1 0 x2).1
      rw [burnt_two h (by rw [e1]; exact h2), e1, e2]
    · rw [burnL_end 9 _ x1 x2 x3 x4 x5 x6 1 1 (fun z => h2 z.2)]
      show _ = mcB x1 [x3, x4, x5, x6] (m_burnt s x1 0 x2).2 (m_burnt s x1 0 x2).1
      rw [burnt_one h (by rw [e1]; exact h2), e1, mcB_stop _ h2]
  · rw [burnL_end 10 s x1 x2 x3 x4 x5 x6 0 0 (fun z => h z.2), mcB_stop _ h]
theorem R_burnt {b : Bool} {σ τ : Sg} (h : R b σ τ) (a k v : Int32) : RP b (m_burnt σ a k v) (m_burnt τ a k v) := by
  by_cases c1 : (a + k) < 2048
  · by_cases c2 : (a + (k + 1)) < 2048
    · rw [burnt_two c1 c2, burnt_two c1 c2]; exact RP_i rfl (R_fl (R_fl h _ _) _ _)
    · rw [burnt_one c1 c2, burnt_one c1 c2]; exact RP_i rfl (R_fl h _ _)
  · rw [burnt_stop c1, burnt_stop c1]; exact RP_i rfl h
theorem R_mcB {b : Bool} (a : Int32) : ∀ (vs : List Int32) (σ τ : Sg) (k : Int32), R b σ τ → RP b (mcB a vs σ k) (mcB a vs τ k) := by
  intro vs
  induction vs with
  | nil => intro σ τ k h; exact RP_i rfl h
  | cons v vs ih =>
    intro σ τ k h
    have h2 := R_burnt h a k v
    show RP b (mcB a vs (m_burnt σ a k v).2 (m_burnt σ a k v).1) (mcB a vs (m_burnt τ a k v).2 (m_burnt τ a k v).1)
    rw [h2.1]
    exact ih _ _ _ h2.2
theorem row_burnt (s : Sg) (a k v : Int32) (j : Nat) : (m_burnt s a k v).2 0 j = s 0 j := by
  by_cases c1 : (a + k) < 2048
  · by_cases c2 : (a + (k + 1)) < 2048
    · rw [burnt_two c1 c2]; rfl
    · rw [burnt_one c1 c2]; rfl
  · rw [burnt_stop c1]
theorem row_mcB (a : Int32) : ∀ (vs : List Int32) (s : Sg) (k : Int32) (j : Nat), (mcB a vs s k).2 0 j = s 0 j := by
  intro vs
  induction vs with
  | nil => intro s k j; rfl
  | cons v vs ih => intro s k j; show (mcB a vs (m_burnt s a k v).2 (m_burnt s a k v).1).2 0 j = _; rw [ih, row_burnt]
theorem I_burn {B m : Int} {σ τ : Sg} (h : IV B m σ τ) {x1 : Int32} (x2 x3 x4 x5 x6 : Int32) (hx : rg 0 2047 x1) : (x1_burn σ x1 x2 x3 x4 x5 x6).1 = (m_burn τ x1 x2 x3 x4 x5 x6).1 ∧ IV B m (x1_burn σ x1 x2 x3 x4 x5 x6).2 (m_burn τ x1 x2 x3 x4 x5 x6).2 := by
  have h2 := IV_35 h (v := 0) (rg_w rl_0 (by decide) (by decide))
  have eX : x1_burn σ x1 x2 x3 x4 x5 x6 = mcB x1 [x2, x3, x4, x5, x6] σ 0 := burn_p0 x1 x2 x3 x4 x5 x6 σ
  have eM : m_burn τ x1 x2 x3 x4 x5 x6 = mcB x1 [x2, x3, x4, x5, x6] (sst τ 0 35 0) 0 := by
    unfold m_burn
    rw [if_pos ⟨nneg hx, by rw [i_lt, ti2048]; have := hx.2; omega⟩]
    rfl
  have oX := okb_x1_burn σ x1 x2 x3 x4 x5 x6 h.2.1 hx
  have oM := ok_m_burn τ x1 x2 x3 x4 x5 x6 h.2.2.1
  have key := R_mcB x1 [x2, x3, x4, x5, x6] _ _ 0 h2.1
  have rX : ∀ j, (x1_burn σ x1 x2 x3 x4 x5 x6).2 0 j = σ 0 j := fun j => by rw [eX]; exact row_mcB _ _ _ _ _
  have rM : ∀ j, (m_burn τ x1 x2 x3 x4 x5 x6).2 0 j = (sst τ 0 35 0) 0 j := fun j => by rw [eM]; exact row_mcB _ _ _ _ _
  rw [← eX, ← eM] at key
  exact ⟨key.1, IV_set h2 key.2 oX.1 oM.1 ⟨rX 20, rX 13, rX 1⟩ ⟨rM 20, rM 13, rM 1⟩⟩
