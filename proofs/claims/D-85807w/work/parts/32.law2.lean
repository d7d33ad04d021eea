/-! PLAIN LAW 2: numbers under masks; the arithmetic of both sides on one state -/
set_option maxRecDepth 100000
theorem toInt_cases (x : Int32) : (x.toInt = (x.toBitVec.toNat : Int) ∧ x.toBitVec.toNat < 2147483648) ∨ (x.toInt = (x.toBitVec.toNat : Int) - 4294967296 ∧ 2147483648 ≤ x.toBitVec.toNat ∧ x.toBitVec.toNat < 4294967296) := by
  have h : x.toInt = x.toBitVec.toInt := rfl
  have h2 := BitVec.toInt_eq_toNat_cond x.toBitVec
  have h3 : x.toBitVec.toNat < 4294967296 := x.toBitVec.isLt
  rw [h, h2]
  split <;> omega
theorem and_int (x : Int32) {m : Int32} (k : Nat) (hk : k ≤ 30) (hm : m.toBitVec.toNat = 2 ^ k - 1) : (x &&& m).toInt = ((x.toBitVec.toNat % 2 ^ k : Nat) : Int) := by
  rw [pk_and x k hm]
  have h1 : x.toBitVec.toNat % 2 ^ k < 2 ^ k := Nat.mod_lt _ (Nat.pow_pos (by decide))
  have h2 : 2 ^ k ≤ 2 ^ 30 := Nat.pow_le_pow_right (by decide) hk
  exact nI_toInt (by omega)
theorem and255 (x : Int32) : (x &&& 255).toInt = x.toInt % 256 := by
  rw [and_int x 8 (by decide) (by decide +kernel)]; rcases toInt_cases x with h | h <;> omega
theorem and15 (x : Int32) : (x &&& 15).toInt = x.toInt % 16 := by
  rw [and_int x 4 (by decide) (by decide +kernel)]; rcases toInt_cases x with h | h <;> omega
theorem and7 (x : Int32) : (x &&& 7).toInt = x.toInt % 8 := by
  rw [and_int x 3 (by decide) (by decide +kernel)]; rcases toInt_cases x with h | h <;> omega
theorem and3 (x : Int32) : (x &&& 3).toInt = x.toInt % 4 := by
  rw [and_int x 2 (by decide) (by decide +kernel)]; rcases toInt_cases x with h | h <;> omega
theorem and1 (x : Int32) : (x &&& 1).toInt = x.toInt % 2 := by
  rw [and_int x 1 (by decide) (by decide +kernel)]; rcases toInt_cases x with h | h <;> omega
theorem and31 (x : Int32) : (x &&& 31).toInt = x.toInt % 32 := by
  rw [and_int x 5 (by decide) (by decide +kernel)]; rcases toInt_cases x with h | h <;> omega
theorem and63 (x : Int32) : (x &&& 63).toInt = x.toInt % 64 := by
  rw [and_int x 6 (by decide) (by decide +kernel)]; rcases toInt_cases x with h | h <;> omega
theorem and127 (x : Int32) : (x &&& 127).toInt = x.toInt % 128 := by
  rw [and_int x 7 (by decide) (by decide +kernel)]; rcases toInt_cases x with h | h <;> omega
theorem and1023 (x : Int32) : (x &&& 1023).toInt = x.toInt % 1024 := by
  rw [and_int x 10 (by decide) (by decide +kernel)]; rcases toInt_cases x with h | h <;> omega
theorem and2047 (x : Int32) : (x &&& 2047).toInt = x.toInt % 2048 := by
  rw [and_int x 11 (by decide) (by decide +kernel)]; rcases toInt_cases x with h | h <;> omega
theorem and4095 (x : Int32) : (x &&& 4095).toInt = x.toInt % 4096 := by
  rw [and_int x 12 (by decide) (by decide +kernel)]; rcases toInt_cases x with h | h <;> omega
theorem and65535 (x : Int32) : (x &&& 65535).toInt = x.toInt % 65536 := by
  rw [and_int x 16 (by decide) (by decide +kernel)]; rcases toInt_cases x with h | h <;> omega
/-- one bit by a mask -/
theorem bit_mask (z : Int32) {f : Int32} (m : Nat) (hm : m < 32) (hf : f.toBitVec = BitVec.twoPow 32 m) : z &&& f = 0 ↔ z.toBitVec.getLsbD m = false := by
  have e2 : ∀ i, i < 32 → (z &&& f).toBitVec.getLsbD i = (decide (i = m) && z.toBitVec.getLsbD m) := by
    intro i hi
    rw [gl_and, hf, BitVec.getLsbD_twoPow]
    by_cases h0 : i = m
    · subst h0; simp [hi]
    · simp [h0, Ne.symm h0]
  constructor
  · intro h
    have h1 := e2 m hm
    rw [h, gl_zero] at h1
    simpa using h1.symm
  · intro h
    apply i32_ext
    intro i hi
    rw [e2 i hi, h, gl_zero]
    simp
theorem bit_int (z : Int32) (m : Nat) : z.toBitVec.getLsbD m = true ↔ z.toBitVec.toNat / 2 ^ m % 2 = 1 := by
  rw [BitVec.getLsbD, Nat.testBit_eq_decide_div_mod_eq]
  simp
theorem and128_iff (z : Int32) : z &&& 128 = 0 ↔ z.toInt % 256 < 128 := by
  rw [bit_mask z 7 (by decide) (by decide +kernel)]
  have h := bit_int z 7
  rcases toInt_cases z with h2 | h2
  · cases q : z.toBitVec.getLsbD 7 with
    | false => rw [q] at h; simp at h ⊢; omega
    | true => rw [q] at h; simp at h ⊢; omega
  · cases q : z.toBitVec.getLsbD 7 with
    | false => rw [q] at h; simp at h ⊢; omega
    | true => rw [q] at h; simp at h ⊢; omega
theorem b7_iff (z : Int32) : z.toBitVec.getLsbD 7 = false ↔ z.toInt % 256 < 128 := by
  rw [← bit_mask z (f := 128) 7 (by decide) (by decide +kernel)]; exact and128_iff z
theorem b7_xor (x y : Int32) : (x ^^^ y).toBitVec.getLsbD 7 = (decide (¬ (x.toInt % 256 < 128 ↔ y.toInt % 256 < 128))) := by
  rw [gl_xor]
  have h1 := b7_iff x
  have h2 := b7_iff y
  cases p : x.toBitVec.getLsbD 7 <;> cases q : y.toBitVec.getLsbD 7 <;> rw [p] at h1 <;> rw [q] at h2 <;> simp at h1 h2 ⊢ <;> omega
theorem and128_xx (a b c e : Int32) : (((a ^^^ b) &&& (c ^^^ e)) &&& 128 = 0) ↔ ((a.toInt % 256 < 128 ↔ b.toInt % 256 < 128) ∨ (c.toInt % 256 < 128 ↔ e.toInt % 256 < 128)) := by
  rw [bit_mask _ 7 (by decide) (by decide +kernel), gl_and, b7_xor, b7_xor]
  by_cases h1 : (a.toInt % 256 < 128 ↔ b.toInt % 256 < 128) <;> by_cases h2 : (c.toInt % 256 < 128 ↔ e.toInt % 256 < 128) <;> simp [h1, h2]
theorem i_lt {x y : Int32} : x < y ↔ x.toInt < y.toInt := Int32.lt_iff_toInt_lt
theorem i_eq {x y : Int32} : x = y ↔ x.toInt = y.toInt := Int32.toInt_inj.symm
theorem ti0 : (0 : Int32).toInt = 0 := by decide +kernel
theorem ti1 : (1 : Int32).toInt = 1 := by decide +kernel
theorem ti127 : (127 : Int32).toInt = 127 := by decide +kernel
theorem tim128 : (-128 : Int32).toInt = -128 := by decide +kernel
theorem ti128 : (128 : Int32).toInt = 128 := by decide +kernel
theorem ti255 : (255 : Int32).toInt = 255 := by decide +kernel
theorem ti256 : (256 : Int32).toInt = 256 := by decide +kernel
/-- m_flag by its mask -/
theorem m_flag_2 (σ : Sg) : m_flag σ 2 = if σ 1 95 &&& 4 = 0 then 0 else 1 := by
  unfold m_flag lt
  have h := shr1_bit (σ 1 95) ((2 : Int32) &&& 31) 0 4 2 (by decide) (by decide +kernel) (by decide +kernel)
  by_cases q : σ 1 95 &&& 4 = 0
  · rw [if_pos q, if_neg (fun z => h.mp z q)]
  · rw [if_neg q, if_pos (h.mpr q)]
theorem m_flag_3 (σ : Sg) : m_flag σ 3 = if σ 1 95 &&& 8 = 0 then 0 else 1 := by
  unfold m_flag lt
  have h := shr1_bit (σ 1 95) ((3 : Int32) &&& 31) 0 8 3 (by decide) (by decide +kernel) (by decide +kernel)
  by_cases q : σ 1 95 &&& 8 = 0
  · rw [if_pos q, if_neg (fun z => h.mp z q)]
  · rw [if_neg q, if_pos (h.mpr q)]
theorem m_flag_1 (σ : Sg) : m_flag σ 1 = if σ 1 95 &&& 2 = 0 then 0 else 1 := by
  unfold m_flag lt
  have h := shr1_bit (σ 1 95) ((1 : Int32) &&& 31) 0 2 1 (by decide) (by decide +kernel) (by decide +kernel)
  by_cases q : σ 1 95 &&& 2 = 0
  · rw [if_pos q, if_neg (fun z => h.mp z q)]
  · rw [if_neg q, if_pos (h.mpr q)]
theorem m_flag_0 (σ : Sg) : m_flag σ 0 = if σ 1 95 &&& 1 = 0 then 0 else 1 := by
  unfold m_flag lt
  have h := shr1_bit (σ 1 95) ((0 : Int32) &&& 31) 0 1 0 (by decide) (by decide +kernel) (by decide +kernel)
  by_cases q : σ 1 95 &&& 1 = 0
  · rw [if_pos q, if_neg (fun z => h.mp z q)]
  · rw [if_neg q, if_pos (h.mpr q)]
theorem m_flag_6 (σ : Sg) : m_flag σ 6 = if σ 1 95 &&& 64 = 0 then 0 else 1 := by
  unfold m_flag lt
  have h := shr1_bit (σ 1 95) ((6 : Int32) &&& 31) 0 64 6 (by decide) (by decide +kernel) (by decide +kernel)
  by_cases q : σ 1 95 &&& 64 = 0
  · rw [if_pos q, if_neg (fun z => h.mp z q)]
  · rw [if_neg q, if_pos (h.mpr q)]
theorem m_flag_7 (σ : Sg) : m_flag σ 7 = if σ 1 95 &&& 128 = 0 then 0 else 1 := by
  unfold m_flag lt
  have h := shr1_bit (σ 1 95) ((7 : Int32) &&& 31) 0 128 7 (by decide) (by decide +kernel) (by decide +kernel)
  by_cases q : σ 1 95 &&& 128 = 0
  · rw [if_pos q, if_neg (fun z => h.mp z q)]
  · rw [if_neg q, if_pos (h.mpr q)]
theorem x2_is_eq (σ : Sg) (f : Int32) : x2_is σ f = if σ 1 95 &&& f = 0 then 0 else 1 := rfl
theorem bsh0 : ((1 : Int32) <<< ((0 : Int32) &&& 31)) = 1 := by decide +kernel
theorem bsh1 : ((1 : Int32) <<< ((1 : Int32) &&& 31)) = 2 := by decide +kernel
theorem bsh2 : ((1 : Int32) <<< ((2 : Int32) &&& 31)) = 4 := by decide +kernel
theorem bsh3 : ((1 : Int32) <<< ((3 : Int32) &&& 31)) = 8 := by decide +kernel
theorem bsh4 : ((1 : Int32) <<< ((4 : Int32) &&& 31)) = 16 := by decide +kernel
theorem bsh5 : ((1 : Int32) <<< ((5 : Int32) &&& 31)) = 32 := by decide +kernel
theorem bsh6 : ((1 : Int32) <<< ((6 : Int32) &&& 31)) = 64 := by decide +kernel
theorem bsh7 : ((1 : Int32) <<< ((7 : Int32) &&& 31)) = 128 := by decide +kernel
theorem n16 (c : Int32) : sf c 16 0 = sf c 16 0 := rfl
/-- N, Z, V, S: both sides -/
theorem by_eq (σ : Sg) (r v : Int32) (hv : rg 0 1 v) : m_zero (m_setFlag σ 3 v) (r &&& 255) = x2_by σ r v := by
  have hN : (if (r &&& 255) < 128 then (0 : Int32) else 1) = if (r &&& 128) = 0 then 0 else 1 := by
    have h1 : ((r &&& 255) < 128) ↔ (r &&& 128 = 0) := by rw [i_lt, and255, ti128, and128_iff]
    by_cases q : r &&& 128 = 0
    · rw [if_pos q, if_pos (h1.mpr q)]
    · rw [if_neg q, if_neg (fun z => q (h1.mp z))]
  unfold m_zero x2_by
  simp only [lt, x2_set_eq, m_setFlag_eq, sst_eq, sst_sst, bsh1, bsh2, bsh3, bsh4, hN, m_flag_2, m_flag_3, x2_is_eq]
  generalize (if (r &&& 128) = 0 then (0 : Int32) else 1) = N
  generalize (if (r &&& 255) = 0 then (1 : Int32) else 0) = Z
  generalize σ 1 95 = s
  have e1 : sf (sf (sf s 8 v) 4 N) 2 Z = sf (sf (sf s 4 N) 2 Z) 8 v := by
    rw [sf_comm s v N (by decide +kernel), sf_comm (sf s 4 N) v Z (by decide +kernel)]
  rw [e1]
  have e2 : (if sf (sf (sf s 4 N) 2 Z) 8 v &&& 8 = 0 then (0 : Int32) else 1) = v := by
    rw [sf_and_self]
    rcases b01 hv with rfl | rfl
    · decide +kernel
    · decide +kernel
  rw [e2]
/-- x + y + c -/
theorem add_eq (σ : Sg) {x y c : Int32} (hx : rg 0 255 x) (hy : rg 0 255 y) (hc : rg 0 1 c) : m_add σ x y c = x2_added σ x y c := by
  have s1 : (x + y + c).toInt = x.toInt + y.toInt + c.toInt := by
    have := hx.1; have := hx.2; have := hy.1; have := hy.2; have := hc.1; have := hc.2
    rw [toInt_add' (by rw [toInt_add' (by omega) (by omega)]; omega) (by rw [toInt_add' (by omega) (by omega)]; omega), toInt_add' (by omega) (by omega)]
  have sg : ∀ {z : Int32}, rg 0 255 z → (m_signed σ z).toInt = if z.toInt < 128 then z.toInt else z.toInt - 256 := by
    intro z hz
    unfold m_signed lt
    by_cases q : z < 128
    · rw [if_pos q, if_pos (by rw [i_lt, ti128] at q; exact q)]
    · rw [if_neg q, if_neg (by rw [i_lt, ti128] at q; exact q), toInt_sub' (by rw [ti256]; have := hz.1; omega) (by rw [ti256]; have := hz.2; omega), ti256]
  have sx := sg hx
  have sy := sg hy
  have bx : -128 ≤ (m_signed σ x).toInt ∧ (m_signed σ x).toInt ≤ 127 := by rw [sx]; have := hx.1; have := hx.2; split <;> omega
  have by_ : -128 ≤ (m_signed σ y).toInt ∧ (m_signed σ y).toInt ≤ 127 := by rw [sy]; have := hy.1; have := hy.2; split <;> omega
  have s2 : (m_signed σ x + m_signed σ y + c).toInt = (m_signed σ x).toInt + (m_signed σ y).toInt + c.toInt := by
    have := hc.1; have := hc.2
    rw [toInt_add' (by rw [toInt_add' (by omega) (by omega)]; omega) (by rw [toInt_add' (by omega) (by omega)]; omega), toInt_add' (by omega) (by omega)]
  have hV : ((m_signed σ x + m_signed σ y + c < -128) ∨ (127 < m_signed σ x + m_signed σ y + c)) ↔ ¬ (((x ^^^ (x + y + c)) &&& (y ^^^ (x + y + c))) &&& 128 = 0) := by
    rw [and128_xx, i_lt, i_lt, s2, tim128, ti127, s1, sx, sy]
    have := hx.1; have := hx.2; have := hy.1; have := hy.2; have := hc.1; have := hc.2
    constructor
    · intro h q
      split at h <;> split at h <;> omega
    · intro h
      split <;> split <;> omega
  have hVi : (if (m_signed σ x + m_signed σ y + c < -128) ∨ (127 < m_signed σ x + m_signed σ y + c) then (1 : Int32) else 0) = if (((x ^^^ (x + y + c)) &&& (y ^^^ (x + y + c))) &&& 128) = 0 then 0 else 1 := by
    by_cases q : (((x ^^^ (x + y + c)) &&& (y ^^^ (x + y + c))) &&& 128) = 0
    · rw [if_pos q, if_neg (fun z => hV.mp z q)]
    · rw [if_neg q, if_pos (hV.mpr q)]
  unfold m_add x2_added
  simp only [lt, hVi]
  rw [by_eq _ _ _ (by split <;> first | exact rg_w rl_0 (by decide) (by decide) | exact rg_w rl_1 (by decide) (by decide))]
  simp only [m_setFlag_eq, x2_set_eq, bsh5, bsh0]
/-- x - y - c -/
theorem sub_eq0 (σ : Sg) {x y c : Int32} (hx : rg 0 255 x) (hy : rg 0 255 y) (hc : rg 0 1 c) : m_subtract σ x y c 0 = x2_taken σ x y c := by
  have s1 : (x - y - c).toInt = x.toInt - y.toInt - c.toInt := by
    have := hx.1; have := hx.2; have := hy.1; have := hy.2; have := hc.1; have := hc.2
    rw [toInt_sub' (by rw [toInt_sub' (by omega) (by omega)]; omega) (by rw [toInt_sub' (by omega) (by omega)]; omega), toInt_sub' (by omega) (by omega)]
  have sg : ∀ {z : Int32}, rg 0 255 z → (m_signed σ z).toInt = if z.toInt < 128 then z.toInt else z.toInt - 256 := by
    intro z hz
    unfold m_signed lt
    by_cases q : z < 128
    · rw [if_pos q, if_pos (by rw [i_lt, ti128] at q; exact q)]
    · rw [if_neg q, if_neg (by rw [i_lt, ti128] at q; exact q), toInt_sub' (by rw [ti256]; have := hz.1; omega) (by rw [ti256]; have := hz.2; omega), ti256]
  have sx := sg hx
  have sy := sg hy
  have bx : -128 ≤ (m_signed σ x).toInt ∧ (m_signed σ x).toInt ≤ 127 := by rw [sx]; have := hx.1; have := hx.2; split <;> omega
  have by_ : -128 ≤ (m_signed σ y).toInt ∧ (m_signed σ y).toInt ≤ 127 := by rw [sy]; have := hy.1; have := hy.2; split <;> omega
  have s2 : (m_signed σ x - m_signed σ y - c).toInt = (m_signed σ x).toInt - (m_signed σ y).toInt - c.toInt := by
    have := hc.1; have := hc.2
    rw [toInt_sub' (by rw [toInt_sub' (by omega) (by omega)]; omega) (by rw [toInt_sub' (by omega) (by omega)]; omega), toInt_sub' (by omega) (by omega)]
  have hV : ((m_signed σ x - m_signed σ y - c < -128) ∨ (127 < m_signed σ x - m_signed σ y - c)) ↔ ¬ (((x ^^^ y) &&& (x ^^^ (x - y - c))) &&& 128 = 0) := by
    rw [and128_xx, i_lt, i_lt, s2, tim128, ti127, s1, sx, sy]
    have := hx.1; have := hx.2; have := hy.1; have := hy.2; have := hc.1; have := hc.2
    constructor
    · intro h q
      split at h <;> split at h <;> omega
    · intro h
      split <;> split <;> omega
  have hVi : (if (m_signed σ x - m_signed σ y - c < -128) ∨ (127 < m_signed σ x - m_signed σ y - c) then (1 : Int32) else 0) = if (((x ^^^ y) &&& (x ^^^ (x - y - c))) &&& 128) = 0 then 0 else 1 := by
    by_cases q : (((x ^^^ y) &&& (x ^^^ (x - y - c))) &&& 128) = 0
    · rw [if_pos q, if_neg (fun z => hV.mp z q)]
    · rw [if_neg q, if_pos (hV.mpr q)]
  unfold m_subtract x2_taken
  simp only [lt, hVi, if_true]
  rw [by_eq _ _ _ (by split <;> first | exact rg_w rl_0 (by decide) (by decide) | exact rg_w rl_1 (by decide) (by decide))]
  simp only [m_setFlag_eq, x2_set_eq, bsh5, bsh0]
