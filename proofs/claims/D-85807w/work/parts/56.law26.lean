/-! PLAIN LAW 26: the windows -/
set_option maxRecDepth 100000
/-- a countdown with its register -/
def blk (i j : Nat) (m : Int32) (s : Sg) : Sg := if 0 < s 0 i then (if s 0 i - 1 = 0 then sst (sst s 0 i (s 0 i - 1)) 1 j (s 1 j &&& m) else sst s 0 i (s 0 i - 1)) else s
theorem blk_eq (i j : Nat) (m : Int32) (s : Sg) : blk i j m s = sst (sst s 0 i (if 0 < s 0 i then s 0 i - 1 else s 0 i)) 1 j (if 0 < s 0 i then (if s 0 i - 1 = 0 then s 1 j &&& m else s 1 j) else s 1 j) := by
  unfold blk
  by_cases p : 0 < s 0 i
  · rw [if_pos p, if_pos p, if_pos p]
    by_cases q : s 0 i - 1 = 0
    · rw [if_pos q, if_pos q]
    · rw [if_neg q, if_neg q]
      have e : s 1 j = sst s 0 i (s 0 i - 1) 1 j := (sst_ne_k _ _ (by decide)).symm
      rw [e, sst_id]
  · rw [if_neg p, if_neg p, if_neg p, sst_id, sst_id]
theorem blk_get {i j a k : Nat} (m : Int32) (s : Sg) (h1 : ¬ (a = 0 ∧ k = i)) (h2 : ¬ (a = 1 ∧ k = j)) : blk i j m s a k = s a k := by
  rw [blk_eq, sst_get, if_neg h2, sst_get, if_neg h1]
theorem blk_comm {i j i2 j2 : Nat} (m m2 : Int32) (s : Sg) (hi : i ≠ i2) (hj : j ≠ j2) : blk i j m (blk i2 j2 m2 s) = blk i2 j2 m2 (blk i j m s) := by
  rw [blk_eq i j m (blk i2 j2 m2 s), blk_get m2 s (by omega) (by omega), blk_get m2 s (a := 1) (k := j) (by omega) (by omega)]
  rw [blk_eq i2 j2 m2 (blk i j m s), blk_get m s (a := 0) (k := i2) (by omega) (by omega), blk_get m s (a := 1) (k := j2) (by omega) (by omega)]
  rw [blk_eq i j m s, blk_eq i2 j2 m2 s]
  generalize (if 0 < s 0 i then s 0 i - 1 else s 0 i) = x
  generalize (if 0 < s 0 i2 then s 0 i2 - 1 else s 0 i2) = y
  generalize (if 0 < s 0 i then (if s 0 i - 1 = 0 then s 1 j &&& m else s 1 j) else s 1 j) = z
  generalize (if 0 < s 0 i2 then (if s 0 i2 - 1 = 0 then s 1 j2 &&& m2 else s 1 j2) else s 1 j2) = w
  rw [sst_comm (sst s 0 i2 y) (k := 1) (j := j2) (k2 := 0) (j2 := i) w x (by omega), sst_comm s (k := 0) (j := i2) (k2 := 0) (j2 := i) y x (by omega)]
  rw [sst_comm (sst (sst s 0 i x) 0 i2 y) (k := 1) (j := j2) (k2 := 1) (j2 := j) w z (by omega)]
  rw [sst_comm (sst s 0 i x) (k := 0) (j := i2) (k2 := 1) (j2 := j) y z (by omega)]
/-- the text of a countdown in the model -/
theorem blk_m (i j : Nat) (m : Int32) (s : Sg) : (if 0 < (s 0 i) then lt (sst s 0 i ((s 0 i) - 1)) fun s14 => if (s14 0 i) = 0 then lt (sst s14 1 j ((s14 1 j) &&& m)) fun s36 => s36 else s14 else s) = blk i j m s := by
  unfold blk
  refine ite_e (fun _ => ?_) (fun _ => rfl)
  rw [lt_g (sst s 0 i (s 0 i - 1)), sst_eq, lt_g (sst (sst s 0 i (s 0 i - 1)) 1 j _), sst_ne_k s _ (by decide)]
theorem m_windows_eq (τ : Sg) : m_windows τ = blk 21 63 251 (blk 25 85 254 (blk 23 96 239 (blk 27 87 224 (blk 26 87 224 τ)))) := by
  unfold m_windows
  rw [blk_m]
  refine lt_l ?_
  rw [blk_m]
  refine lt_l ?_
  rw [blk_m]
  refine lt_l ?_
  rw [blk_m]
  refine lt_l ?_
  rw [blk_m]
  refine lt_l ?_
  rw [blk_comm (i := 27) (j := 87) (i2 := 21) (j2 := 63) _ _ _ (by decide) (by decide), blk_comm (i := 27) (j := 87) (i2 := 25) (j2 := 85) _ _ _ (by decide) (by decide), blk_comm (i := 27) (j := 87) (i2 := 23) (j2 := 96) _ _ _ (by decide) (by decide)]
theorem dec_nn {x : Int32} (h : 0 < x) : 0 ≤ (x - 1).toInt := by
  have h2 := i_lt.mp h
  rw [ti0] at h2
  have h3 := toInt_cases x
  rw [toInt_sub' (by rw [ti1]; omega) (by rw [ti1]; omega), ti1]; omega
theorem R_dec {b : Bool} {σ τ : Sg} (h : R b σ τ) {j : Nat} (ho : sok j = true) (hp : 0 < σ 0 j) : R b (sst σ 0 j ((σ 0 j) - 1)) (sst τ 0 j ((σ 0 j) - 1)) := R_scal h rfl ho (fun _ => dec_nn hp)
/-- the board's countdowns of the flash -/
theorem R_b87 {b : Bool} {σ τ : Sg} (h : R b σ τ) (ok : XOK σ) {j : Nat} (ho : sok j = true) (hj : scal j = true) (hx : ∀ v, XOK (sst σ 0 j v)) : R b (if 0 < (σ 0 j) then lt (sst σ 0 j ((σ 0 j) - 1)) fun s14 => if (s14 0 j) = 0 then lt (x10_done s14) fun s25 => s25 else s14 else σ) (blk j 87 224 τ) := by
  unfold blk
  rw [← h.sc j hj]
  refine ite_R (fun p => ?_) (fun _ => h)
  have h2 := R_dec h ho p
  refine ltl_R ?_
  rw [sst_eq]
  have e : τ 1 87 = (sst τ 0 j ((σ 0 j) - 1)) 1 87 := (sst_ne_k _ _ (by decide)).symm
  refine ite_R (fun _ => ?_) (fun _ => h2)
  rw [e]
  exact ltl_R (R_done h2 (hx _))
theorem R_x10c {b : Bool} {σ τ : Sg} (h : R b σ τ) (ok : XOK σ) : R b (x10_cycle σ) (blk 27 87 224 (blk 26 87 224 τ)) := by
  unfold x10_cycle
  have h1 := R_b87 h ok (j := 26) rfl rfl (fun v => xst_f0_26 ok)
  have o1 : XOK (if 0 < (σ 0 26) then lt (sst σ 0 26 ((σ 0 26) - 1)) fun s14 => if (s14 0 26) = 0 then lt (x10_done s14) fun s25 => s25 else s14 else σ) := by
    by_cases p : 0 < σ 0 26
    · rw [if_pos p, lt_g (sst σ 0 26 _)]
      have o : XOK (sst σ 0 26 ((σ 0 26) - 1)) := xst_f0_26 ok
      by_cases q : (sst σ 0 26 ((σ 0 26) - 1)) 0 26 = 0
      · rw [if_pos q]; exact ok_x10_done _ o
      · rw [if_neg q]; exact o
    · rw [if_neg p]; exact ok
  refine ltl_R ?_
  revert h1 o1
  generalize (if 0 < (σ 0 26) then lt (sst σ 0 26 ((σ 0 26) - 1)) fun s14 => if (s14 0 26) = 0 then lt (x10_done s14) fun s25 => s25 else s14 else σ) = s
  generalize blk 26 87 224 τ = t
  intro h1 o1
  exact ltl_R (R_b87 h1 o1 (j := 27) rfl rfl (fun v => xst_f0_27 o1))
theorem pos_ne {x : Int32} (h : 0 ≤ x.toInt) : (x = 0) ↔ ¬ 0 < x := by rw [pos_iff h]; exact ⟨fun a b => b a, fun a => Classical.byContradiction a⟩
theorem R_x8s {b : Bool} {σ τ : Sg} (h : R b σ τ) (ok : XOK σ) : R b (x8_shorter σ) (blk 23 96 239 τ) := by
  unfold x8_shorter blk
  rw [← h.sc 23 rfl]
  have c := pos_ne (h.wi 23 rfl)
  by_cases p : 0 < σ 0 23
  · rw [if_pos p, if_neg (fun z => c.mp z p)]
    have h2 := R_dec h (j := 23) rfl p
    refine ltl_R ?_
    rw [sst_eq]
    refine ltl_R ?_
    refine ite_R (fun _ => ?_) (fun _ => h2)
    have e : τ 1 96 = (sst τ 0 23 ((σ 0 23) - 1)) 1 96 := (sst_ne_k _ _ (by decide)).symm
    have r : rg 0 255 ((sst σ 0 23 ((σ 0 23) - 1)) 1 96) := xr_1 ok 96
    refine ltl_R ?_
    rw [e, ← h2.da 96 rfl, byte_and (q := 239) r (by decide)]
    refine R_96 h2 (fun z => ?_)
    have h3 := h2.dg z
    have h4 : ((sst σ 0 23 ((σ 0 23) - 1)) 1 96 &&& 239) &&& 8 = (sst σ 0 23 ((σ 0 23) - 1)) 1 96 &&& 8 := by rw [Int32.and_assoc]; rfl
    rw [h4]; exact h3
  · rw [if_neg p, if_pos (c.mpr p)]; exact h
theorem v85_f : ∀ n : Fin 4, (nI n.val &&& 2) = (nI n.val &&& 254) := by decide +kernel
theorem v85_e {x : Int32} (h : rg 0 3 x) : x &&& 2 = x &&& 254 := by
  obtain ⟨e, e2⟩ := rg_nI h
  have := h.2
  rw [e]; exact v85_f ⟨x.toNatClampNeg, by omega⟩
theorem R_x9c {b : Bool} {σ τ : Sg} (h : R b σ τ) : R b (x9_cycle σ) (blk 25 85 254 τ) := by
  unfold x9_cycle blk
  rw [← h.sc 25 rfl]
  have c := pos_ne (h.wi 25 rfl)
  by_cases p : 0 < σ 0 25
  · rw [if_pos p, if_neg (fun z => c.mp z p)]
    have h2 := R_dec h (j := 25) rfl p
    refine ltl_R ?_
    rw [sst_eq]
    refine ltl_R ?_
    refine ite_R (fun _ => ?_) (fun _ => h2)
    have e : τ 1 85 = (sst τ 0 25 ((σ 0 25) - 1)) 1 85 := (sst_ne_k _ _ (by decide)).symm
    refine ltl_R ?_
    rw [e, ← h2.da 85 rfl, v85_e h2.d85]
    exact R_da h2 rfl (fun q => absurd q (by decide)) (fun _ => rg_and_l h2.d85) (fun q => absurd q (by decide)) (fun q => absurd q (by decide)) (fun q => absurd q (by decide)) (fun _ _ q => by cases q)
  · rw [if_neg p, if_pos (c.mpr p)]; exact h
def x7a (s : Sg) : Sg := if 0 < s 0 21 then sst s 0 21 (s 0 21 - 1) else s
def x7b (s : Sg) : Sg := if 0 < s 0 22 then sst s 0 22 (s 0 22 - 1) else s
theorem x7_eq (s : Sg) : x7_cycle s = x7b (x7a s) := rfl
theorem dec_pos {x : Int32} (h : 0 < x) : (0 < x - 1) ↔ ¬ x - 1 = 0 := pos_iff (dec_nn h)
theorem R_x7a {b : Bool} {σ τ : Sg} (h : R b σ τ) : R b (x7a σ) (blk 21 63 251 τ) := by
  unfold x7a
  rw [blk_eq, ← h.sc 21 rfl]
  by_cases p : 0 < σ 0 21
  · rw [if_pos p, if_pos p, if_pos p]
    refine R_rom h ?_ ?_ ?_ ?_ ?_ ?_ ?_ ?_ ?_
    · intro j a1 a2
      exact ⟨sst_ne_j _ _ a1, (sst_ne_k _ _ (by decide)).trans (sst_ne_j _ _ a1)⟩
    · rw [sst_eq, sst_ne_k _ _ (by decide), sst_eq]
    · exact (sst_ne_j _ _ (by decide)).trans ((h.sc 22 rfl).trans ((sst_ne_k _ _ (by decide)).trans (sst_ne_j _ _ (by decide))).symm)
    · rw [sst_eq]; exact dec_nn p
    · rw [sst_ne_j _ _ (by decide)]; exact h.wi 22 rfl
    · intro j hj
      exact ⟨sst_ne_k _ _ (by decide), (sst_ne_j _ _ hj).trans (sst_ne_k _ _ (by decide))⟩
    · intro k hk
      exact ⟨sst_row _ _ (by omega), (sst_row _ _ (by omega)).trans (sst_row _ _ (by omega))⟩
    · rw [sst_ne_k _ _ (by decide)]; exact h.e8
    · rw [sst_eq, sst_ne_k σ _ (by decide), sst_eq, sst_ne_j σ _ (by decide)]
      by_cases q : σ 0 21 - 1 = 0
      · rw [if_pos q, if_neg (fun z => (dec_pos p).mp z q), h.ee, ee_0 (ee_k h)]
      · rw [if_neg q, if_pos ((dec_pos p).mpr q), h.ee, if_pos p]
  · rw [if_neg p, if_neg p, if_neg p]
    have e : σ 0 21 = τ 0 21 := h.sc 21 rfl
    rw [e, sst_id, sst_id]; exact h
theorem R_x7b {b : Bool} {σ τ : Sg} (h : R b σ τ) : R b (x7b σ) (blk 22 63 253 τ) := by
  unfold x7b
  rw [blk_eq, ← h.sc 22 rfl]
  by_cases p : 0 < σ 0 22
  · rw [if_pos p, if_pos p, if_pos p]
    refine R_rom h ?_ ?_ ?_ ?_ ?_ ?_ ?_ ?_ ?_
    · intro j a1 a2
      exact ⟨sst_ne_j _ _ a2, (sst_ne_k _ _ (by decide)).trans (sst_ne_j _ _ a2)⟩
    · exact (sst_ne_j _ _ (by decide)).trans ((h.sc 21 rfl).trans ((sst_ne_k _ _ (by decide)).trans (sst_ne_j _ _ (by decide))).symm)
    · rw [sst_eq, sst_ne_k _ _ (by decide), sst_eq]
    · rw [sst_ne_j _ _ (by decide)]; exact h.wi 21 rfl
    · rw [sst_eq]; exact dec_nn p
    · intro j hj
      exact ⟨sst_ne_k _ _ (by decide), (sst_ne_j _ _ hj).trans (sst_ne_k _ _ (by decide))⟩
    · intro k hk
      exact ⟨sst_row _ _ (by omega), (sst_row _ _ (by omega)).trans (sst_row _ _ (by omega))⟩
    · rw [sst_ne_k _ _ (by decide)]; exact h.e8
    · rw [sst_eq, sst_ne_k σ _ (by decide), sst_eq, sst_ne_j σ _ (by decide)]
      by_cases q : σ 0 22 - 1 = 0
      · rw [if_pos q, if_neg (fun z => (dec_pos p).mp z q), h.ee, ee_r (ee_k h)]
      · rw [if_neg q, if_pos ((dec_pos p).mpr q), h.ee, if_pos p]
  · rw [if_neg p, if_neg p, if_neg p]
    have e : σ 0 22 = τ 0 22 := h.sc 22 rfl
    rw [e, sst_id, sst_id]; exact h
