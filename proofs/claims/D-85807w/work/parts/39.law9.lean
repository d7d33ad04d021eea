/-! PLAIN LAW 9: loads -/
set_option maxRecDepth 100000
theorem ite_lP {b : Bool} {c : Prop} [Decidable c] {s s' t : Int32 × Sg} (h1 : c → RP b s t) (h2 : ¬ c → RP b s' t) : RP b (if c then s else s') t := by
  by_cases h : c
  · rw [if_pos h]; exact h1 h
  · rw [if_neg h]; exact h2 h
theorem ite_lR {b : Bool} {c : Prop} [Decidable c] {s s' t : Sg} (h1 : c → R b s t) (h2 : ¬ c → R b s' t) : R b (if c then s else s') t := by
  by_cases h : c
  · rw [if_pos h]; exact h1 h
  · rw [if_neg h]; exact h2 h
theorem ite_rR {b : Bool} {c : Prop} [Decidable c] {s t t' : Sg} (h1 : c → R b s t) (h2 : ¬ c → R b s t') : R b s (if c then t else t') := by
  by_cases h : c
  · rw [if_pos h]; exact h1 h
  · rw [if_neg h]; exact h2 h
theorem and_pow (z : Int32) {f : Int32} (m : Nat) (hm : m < 32) (hf : f.toBitVec = BitVec.twoPow 32 m) : z &&& f = 0 ∨ z &&& f = f := by
  by_cases q : z &&& f = 0
  · exact Or.inl q
  · refine Or.inr (i32_ext (fun i hi => ?_))
    have q2 : ¬ z.toBitVec.getLsbD m = false := fun z2 => q ((bit_mask z m hm hf).mpr z2)
    rw [gl_and, hf, BitVec.getLsbD_twoPow]
    by_cases h0 : m = i
    · subst h0
      cases q3 : z.toBitVec.getLsbD m with
      | true => simp
      | false => exact absurd q3 q2
    · simp [h0]
theorem e8_cases {x : Int32} (h : x &&& 8 = x) : x = 0 ∨ x = 8 := by
  rcases and_pow x (f := 8) 3 (by decide) (by decide +kernel) with q | q
  · left; rw [← h, q]
  · right; rw [← h, q]
theorem tn_ne {a : Int32} (ha : rg 0 65535 a) {n : Nat} {k : Int32} (hk : k = nI n) (hn : n < 2 ^ 31) (h : ¬ a = k) : a.toNatClampNeg ≠ n := by
  intro q
  obtain ⟨e, e2⟩ := rg_nI ha
  exact h (by rw [e, q, hk])
theorem okj_of {a : Int32} (ha : rg 0 65535 a) (h1 : ¬ a = 63) (h2 : ¬ a = 192) : okj a.toNatClampNeg = true := by
  have q1 := tn_ne ha (n := 63) (k := 63) rfl (by decide) h1
  have q2 := tn_ne ha (n := 192) (k := 192) rfl (by decide) h2
  unfold okj
  simp [q1, q2]
theorem nneg {a : Int32} {hi : Int} (ha : rg 0 hi a) : ¬ a < 0 := by
  rw [i_lt, ti0]; have := ha.1; omega
theorem un_of {b : Bool} {σ τ : Sg} (h : R b σ τ) {a : Int32} (ha : rg 0 65535 a) (h1 : ¬ a < 32) (h2 : a < 256) (hu : uAt a.toNatClampNeg = none) : σ 1 a.toNatClampNeg = 0 := by
  obtain ⟨e, e2⟩ := rg_nI ha
  rw [i_lt] at h1 h2
  have t1 : (32 : Int32).toInt = 32 := by decide +kernel
  rw [t1] at h1
  rw [ti256] at h2
  exact h.un _ (by omega) (by omega) hu
theorem m_load_plain (τ : Sg) {a : Int32} (ha : rg 0 65535 a) (h35 : ¬ a = 35) (h63 : ¬ a = 63) (h198 : ¬ a = 198) : m_load τ a = (if a < 1280 then τ 1 a.toNatClampNeg else 0, τ) := by
  unfold m_load
  rw [if_neg h198]
  refine lt_l (lt_l ?_)
  unfold m_seen
  rw [if_neg h198, if_neg h35]
  by_cases q : a < 1280
  · rw [if_pos ⟨nneg ha, q⟩, if_pos q]
    congr 1
    refine lt_l ?_
    rw [if_neg h63]
  · rw [if_neg (fun z => q z.2), if_neg q]
theorem a256 {a : Int32} (h : a < 256) : a < 1280 := by
  rw [i_lt] at h ⊢
  have t1 : (1280 : Int32).toInt = 1280 := by decide +kernel
  rw [ti256] at h; rw [t1]; omega
theorem R_load_plain {b : Bool} {σ τ : Sg} (h : R b σ τ) {a : Int32} (ha : rg 0 65535 a) (h35 : ¬ a = 35) (h63 : ¬ a = 63) (h192 : ¬ a = 192) (h198 : ¬ a = 198) : RP b (x2_load σ a) (m_load τ a) := by
  rw [m_load_plain τ ha h35 h63 h198]
  have hd := h.da _ (okj_of ha h63 h192)
  unfold x2_load
  refine ite_lP (fun hr => ?_) (fun hr => ?_)
  · have h1280 := a256 hr.2
    rw [if_pos h1280]
    have g : RP b (σ 1 a.toNatClampNeg, σ) (τ 1 a.toNatClampNeg, τ) := ⟨hd, h⟩
    rw [if_neg h35]
    refine ite_lP (fun _ => ite_lP (fun _ => g) (fun _ => g)) (fun k1 => ?_)
    refine ite_lP (fun _ => ite_lP (fun _ => g) (fun _ => ?_)) (fun k2 => ?_)
    · unfold x7_load
      rw [if_neg h63]; exact g
    refine ite_lP (fun _ => ite_lP (fun _ => g) (fun _ => g)) (fun k3 => ?_)
    refine ite_lP (fun _ => ite_lP (fun _ => g) (fun _ => g)) (fun k4 => ?_)
    refine ite_lP (fun _ => ite_lP (fun _ => g) (fun _ => g)) (fun k5 => ?_)
    refine ite_lP (fun q => ite_lP (fun _ => g) (fun q2 => ?_)) (fun k6 => ?_)
    · rcases q with (q | q) | q
      · exact absurd q h192
      · exact absurd q q2
      · exact absurd q h198
    refine ite_lP (fun _ => g) (fun k7 => ?_)
    refine RP_i ?_ h
    have hu := uAt_int (x := a) ⟨ha.1, by have := i_lt.mp hr.2; rw [ti256] at this; omega⟩
    rw [if_neg h35, if_neg k1, if_neg k2, if_neg k3, if_neg k4, if_neg k5, if_neg k6, if_neg k7] at hu
    rw [← hd, un_of h ha hr.1 hr.2 hu]
  · refine RP_i ?_ h
    by_cases q : a < 1280
    · rw [if_pos q, if_pos q]; exact hd
    · rw [if_neg q, if_neg q]
theorem xload35 (σ : Sg) : x2_load σ 35 = (x4_load σ 35, σ) := rfl
theorem mload35 (τ : Sg) : m_load τ 35 = ((((τ 1 37) &&& (τ 1 36)) ||| (((τ 0 9) &&& ((τ 1 36) ^^^ (-1))) &&& 255)), τ) := rfl
theorem xload63 (σ : Sg) : x2_load σ 63 = (x7_load σ 63, σ) := rfl
theorem mload63 (τ : Sg) : m_load τ 63 = ((τ 1 63) &&& 254, τ) := rfl
theorem x7load63 (σ : Sg) : x7_load σ 63 = ((((σ 1 63) &&& 8) ||| (if 0 < (σ 0 21) then 4 else 0)) ||| (if 0 < (σ 0 22) then 2 else 0)) := rfl
theorem R_load_35 {b : Bool} {σ τ : Sg} (h : R b σ τ) : RP b (x2_load σ 35) (m_load τ 35) := by
  rw [xload35, mload35]
  refine RP_i ?_ h
  unfold x4_load
  rw [h.da 37 rfl, h.da 36 rfl, h.sc 9 rfl]
theorem R_load_192 {b : Bool} {σ τ : Sg} (h : R b σ τ) : RP b (x2_load σ 192) (m_load τ 192) := by
  rw [m_load_plain τ (a := 192) (by refine ⟨?_, ?_⟩ <;> decide +kernel) (by decide) (by decide) (by decide), if_pos (by decide)]
  unfold x2_load x6_load
  rw [if_pos (by decide), if_neg (by decide), if_neg (by decide), if_neg (by decide), if_neg (by decide), if_neg (by decide), if_neg (by decide), if_pos (by decide), if_neg (by decide)]
  refine RP_i ?_ h
  exact h.s2.symm
theorem R_load_63 {b : Bool} {σ τ : Sg} (h : R b σ τ) : RP b (x2_load σ 63) (m_load τ 63) := by
  rw [xload63, mload63, x7load63]
  refine RP_i ?_ h
  rw [h.ee, h.e8]
  rcases e8_cases h.e8 with q | q <;> rw [q] <;> by_cases p1 : 0 < σ 0 21 <;> by_cases p2 : 0 < σ 0 22 <;> simp only [p1, p2, if_true, if_false] <;> decide
theorem xload198 (σ : Sg) : x2_load σ 198 = (if 0 < (σ 0 18) then (σ 0 16) else 0, sst (if 0 < (σ 0 18) then sst (sst σ 0 16 (σ 0 17)) 0 18 ((σ 0 18) - 1) else σ) 0 31 0) := rfl
theorem mload198 (τ : Sg) : m_load τ 198 = (if 0 < (τ 0 18) then (τ 0 16) else 0, m_showReceived (sst (if 0 < (τ 0 18) then sst (sst τ 0 16 (τ 0 17)) 0 18 ((τ 0 18) - 1) else τ) 1 192 (((if 0 < (τ 0 18) then sst (sst τ 0 16 (τ 0 17)) 0 18 ((τ 0 18) - 1) else τ) 1 192) &&& 247))) := rfl
/-- the line's status after it changed on both sides -/
theorem R_line {b : Bool} {σ τ σ2 τ2 : Sg} (h : R b σ τ) (q0 : ∀ j, j ≠ 11 → j ≠ 14 → j ≠ 16 → j ≠ 17 → j ≠ 18 → j ≠ 31 → j ≠ 32 → j ≠ 33 → σ2 0 j = σ 0 j ∧ τ2 0 j = τ 0 j) (q11 : σ2 0 11 = τ2 0 11) (q14 : σ2 0 14 = τ2 0 14) (q16 : σ2 0 16 = τ2 0 16) (q17 : σ2 0 17 = τ2 0 17) (q18 : σ2 0 18 = τ2 0 18) (qd : ∀ j, σ2 1 j = σ 1 j) (qe : ∀ j, j ≠ 192 → τ2 1 j = τ 1 j) (qr : ∀ k, 2 ≤ k → σ2 k = σ k ∧ τ2 k = τ k) (qs : τ2 1 192 = x6_state σ2) : R b σ2 τ2 := by
  have z : ∀ j, j ≠ 11 → j ≠ 14 → j ≠ 16 → j ≠ 17 → j ≠ 18 → j ≠ 31 → j ≠ 32 → j ≠ 33 → σ2 0 j = σ 0 j := fun j a1 a2 a3 a4 a5 a6 a7 a8 => (q0 j a1 a2 a3 a4 a5 a6 a7 a8).1
  have y : ∀ j, j ≠ 11 → j ≠ 14 → j ≠ 16 → j ≠ 17 → j ≠ 18 → j ≠ 31 → j ≠ 32 → j ≠ 33 → τ2 0 j = τ 0 j := fun j a1 a2 a3 a4 a5 a6 a7 a8 => (q0 j a1 a2 a3 a4 a5 a6 a7 a8).2
  refine R_mk ?_ ?_ ?_ ?_ ?_ ?_ qs ?_ ?_ ?_ ?_ ?_ ?_ ?_ ?_ ?_ ?_ ?_ ?_
  · intro j hj
    by_cases c1 : j = 11
    · rw [c1]; exact q11
    by_cases c2 : j = 14
    · rw [c2]; exact q14
    by_cases c3 : j = 16
    · rw [c3]; exact q16
    by_cases c4 : j = 17
    · rw [c4]; exact q17
    by_cases c5 : j = 18
    · rw [c5]; exact q18
    have c6 : j < 31 := by unfold scal at hj; simp at hj; omega
    rw [z j c1 c2 c3 c4 c5 (by omega) (by omega) (by omega), y j c1 c2 c3 c4 c5 (by omega) (by omega) (by omega)]
    exact h.sc j hj
  · intro q
    rw [z 1 (by decide) (by decide) (by decide) (by decide) (by decide) (by decide) (by decide) (by decide), y 1 (by decide) (by decide) (by decide) (by decide) (by decide) (by decide) (by decide) (by decide)]
    exact h.mo q
  · intro j hj
    rw [qd, qe j (by intro q; subst q; cases hj)]; exact h.da j hj
  · rw [(qr 2 (by decide)).1, (qr 2 (by decide)).2]; exact h.fl
  · rw [(qr 3 (by decide)).1, (qr 3 (by decide)).2]; exact h.er
  · rw [(qr 4 (by decide)).1, (qr 4 (by decide)).2]; exact h.kp
  · rw [qe 63 (by decide), qd, z 21 (by decide) (by decide) (by decide) (by decide) (by decide) (by decide) (by decide) (by decide), z 22 (by decide) (by decide) (by decide) (by decide) (by decide) (by decide) (by decide) (by decide)]; exact h.ee
  · rw [qd]; exact h.e8
  · rw [(qr 5 (by decide)).1, (qr 5 (by decide)).2, (qr 7 (by decide)).2]; exact h.bu
  · rw [(qr 6 (by decide)).1, (qr 6 (by decide)).2, z 19 (by decide) (by decide) (by decide) (by decide) (by decide) (by decide) (by decide) (by decide), z 34 (by decide) (by decide) (by decide) (by decide) (by decide) (by decide) (by decide) (by decide)]; exact h.ri
  · intro j hj
    have c : j = 13 ∨ j = 21 ∨ j = 22 ∨ j = 23 ∨ j = 25 ∨ j = 26 ∨ j = 27 := by unfold win at hj; simp at hj; omega
    rw [z j (by omega) (by omega) (by omega) (by omega) (by omega) (by omega) (by omega) (by omega)]; exact h.wi j hj
  · rw [qd]; exact h.d53
  · rw [qd]; exact h.d85
  · rw [qd]; exact h.d87
  · rw [qd, qd]; exact h.dg
  · intro j h1 h2 h3; rw [qd]; exact h.un j h1 h2 h3
  · rw [z 30 (by decide) (by decide) (by decide) (by decide) (by decide) (by decide) (by decide) (by decide)]; exact h.rs
  · rw [z 6 (by decide) (by decide) (by decide) (by decide) (by decide) (by decide) (by decide) (by decide), z 7 (by decide) (by decide) (by decide) (by decide) (by decide) (by decide) (by decide) (by decide)]; exact h.sf
theorem st_eq (σ : Sg) : x6_state σ = (((((if 0 < (σ 0 18) then 128 else 0) ||| (if (σ 0 32) = 0 then 0 else 64)) ||| (if (σ 0 11) < 0 then 32 else 0)) ||| (if (σ 0 31) = 0 then 0 else 8)) ||| (if (σ 0 33) = 0 then 0 else 2) : Int32) := rfl
theorem show_eq (σ : Sg) : m_showReceived σ = sst σ 1 192 (((σ 1 192) &&& 127) ||| (if 0 < (σ 0 18) then 128 else 0)) := rfl
