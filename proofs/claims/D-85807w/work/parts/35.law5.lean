/-! PLAIN LAW 5: the model's functions of registers and flags are the board's, on one state -/
set_option maxRecDepth 100000
theorem lt_g {α β : Type} (x : α) (f : α → β) : lt x f = f x := rfl
theorem ite_e {α : Type} {c : Prop} [Decidable c] {a b a' b' : α} (h1 : c → a = a') (h2 : ¬ c → b = b') : (if c then a else b) = if c then a' else b' := by
  by_cases h : c
  · rw [if_pos h, if_pos h]; exact h1 h
  · rw [if_neg h, if_neg h]; exact h2 h
theorem lt_e {α β : Type} {a a' : α} {f f' : α → β} (h1 : a = a') (h2 : ∀ x, f x = f' x) : lt a f = lt a' f' := by
  rw [h1]; exact h2 a'
theorem shri (x : Int32) (s : Int32) (k : Nat) (hs : (s.toBitVec.smod 32).toNat = k) : (x >>> s).toInt = x.toInt / ((2 ^ k : Nat) : Int) := by
  rw [pk_shr x s k hs, Int.shiftRight_eq_div_pow]
theorem shr8i (x : Int32) : (x >>> (8 : Int32)).toInt = x.toInt / 256 := shri x 8 8 (by decide +kernel)
theorem shr1i (x : Int32) : (x >>> (1 : Int32)).toInt = x.toInt / 2 := shri x 1 1 (by decide +kernel)
theorem shr2i (x : Int32) : (x >>> (2 : Int32)).toInt = x.toInt / 4 := shri x 2 2 (by decide +kernel)
theorem shr3i (x : Int32) : (x >>> (3 : Int32)).toInt = x.toInt / 8 := shri x 3 3 (by decide +kernel)
theorem shr4i (x : Int32) : (x >>> (4 : Int32)).toInt = x.toInt / 16 := shri x 4 4 (by decide +kernel)
theorem shr5i (x : Int32) : (x >>> (5 : Int32)).toInt = x.toInt / 32 := shri x 5 5 (by decide +kernel)
theorem shr6i (x : Int32) : (x >>> (6 : Int32)).toInt = x.toInt / 64 := shri x 6 6 (by decide +kernel)
theorem shr7i (x : Int32) : (x >>> (7 : Int32)).toInt = x.toInt / 128 := shri x 7 7 (by decide +kernel)
theorem shr9i (x : Int32) : (x >>> (9 : Int32)).toInt = x.toInt / 512 := shri x 9 9 (by decide +kernel)
theorem shr10i (x : Int32) : (x >>> (10 : Int32)).toInt = x.toInt / 1024 := shri x 10 10 (by decide +kernel)
theorem shr12i (x : Int32) : (x >>> (12 : Int32)).toInt = x.toInt / 4096 := shri x 12 12 (by decide +kernel)
theorem m255 {x : Int32} (h : rg 0 255 x) : x &&& 255 = x := i_eq.mpr (by rw [and255]; have := h.1; have := h.2; omega)
theorem m2047 {x : Int32} (h : rg 0 2047 x) : x &&& 2047 = x := i_eq.mpr (by rw [and2047]; have := h.1; have := h.2; omega)
theorem lo16 (z : Int32) : (z &&& 65535) &&& 255 = z &&& 255 := i_eq.mpr (by rw [and255, and255, and65535]; omega)
theorem hi16 (z : Int32) : ((z &&& 65535) >>> (8 : Int32)) &&& 255 = (z >>> (8 : Int32)) &&& 255 := i_eq.mpr (by rw [and255, and255, shr8i, shr8i, and65535]; omega)
theorem setFlag_set (σ : Sg) (k v : Int32) : m_setFlag σ k v = x2_set σ ((1 : Int32) <<< (k &&& 31)) v := rfl
theorem mptr (σ : Sg) (x : Int32) : m_pointer σ x = x2_pair σ x := by unfold m_pointer x2_pair; rw [Int32.or_comm]
theorem mptr93 (σ : Sg) : m_pointer σ 93 = x2_stack σ := by rw [mptr]; rfl
theorem msetptr (σ : Sg) (x v : Int32) : m_setPointer σ x v = x2_toPair σ x v := rfl
theorem msetptr93 (σ : Sg) (v : Int32) : m_setPointer σ 93 v = x2_toStack σ v := rfl
theorem toPair16 (σ : Sg) (x v : Int32) : x2_toPair σ x (v &&& 65535) = x2_toPair σ x v := by unfold x2_toPair; rw [lo16, hi16]
theorem carry_eq (σ : Sg) : m_carry σ = if x2_is σ 1 = 0 then 0 else 1 := by
  unfold m_carry x2_is lt
  by_cases h : σ 1 95 &&& 1 = 0
  · rw [if_pos h, if_pos rfl, h]
  · rw [if_neg h, if_neg (by decide)]
    refine i_eq.mpr ?_
    have h2 : ¬ (σ 1 95 &&& 1).toInt = 0 := fun q => h (i_eq.mpr (by rw [q, ti0]))
    rw [and1] at h2 ⊢
    rw [ti1]; omega
theorem carry_is (σ : Sg) : m_carry σ = x2_is σ 1 := by
  rw [carry_eq]
  unfold x2_is lt
  by_cases h : σ 1 95 &&& 1 = 0
  · rw [if_pos h, if_pos rfl]
  · rw [if_neg h, if_neg (by decide)]
theorem rg_is (σ : Sg) (f : Int32) : rg 0 1 (x2_is σ f) := by
  unfold x2_is lt
  split
  · exact rg_w rl_0 (by decide) (by decide)
  · exact rg_w rl_1 (by decide) (by decide)
theorem rg_ite01 {c : Prop} [Decidable c] : rg 0 1 (if c then (0 : Int32) else 1) := by
  split
  · exact rg_w rl_0 (by decide) (by decide)
  · exact rg_w rl_1 (by decide) (by decide)
theorem is_set_ne (σ : Sg) {f g : Int32} (v : Int32) (h : f &&& g = 0) : x2_is (x2_set σ f v) g = x2_is σ g := by
  rw [x2_is_eq, x2_is_eq, x2_set_eq, sst_eq, sf_and_ne _ _ h]
theorem is_set_self (σ : Sg) {f : Int32} (v : Int32) (hf : ¬ f = 0) : x2_is (x2_set σ f v) f = if v = 0 then 0 else 1 := by
  rw [x2_is_eq, x2_set_eq, sst_eq, sf_and_self]
  by_cases h : v = 0
  · rw [if_pos h, if_pos rfl, if_pos h]
  · rw [if_neg h, if_neg hf, if_neg h]
theorem is2_by (σ : Sg) (r v : Int32) : x2_is (x2_by σ r v) 2 = if r &&& 255 = 0 then 1 else 0 := by
  unfold x2_by
  simp only [lt_g]
  rw [is_set_ne _ _ (by decide +kernel), is_set_ne _ _ (by decide +kernel), is_set_self _ _ (by decide)]
  by_cases h : r &&& 255 = 0
  · rw [if_pos h, if_neg (by decide)]
  · rw [if_neg h, if_pos rfl]
theorem sub_on (σ : Sg) (x y c : Int32) : m_subtract σ x y c 1 = lt (m_subtract σ x y c 0) fun r => lt ((if (¬ (r.1 = 0)) ∨ (m_flag σ 1 = 0) then 0 else 1) : Int32) fun z => (r.1, m_setFlag r.2 1 z) := rfl
theorem sub_eq1 (σ : Sg) {x y : Int32} (hx : rg 0 255 x) (hy : rg 0 255 y) : m_subtract σ x y (m_carry σ) 1 = x2_takenOn σ x y := by
  rw [sub_on, sub_eq0 σ hx hy (by rw [carry_is]; exact rg_is σ 1), carry_eq]
  unfold x2_takenOn
  simp only [lt_g]
  have e1 : ∀ c, (x2_taken σ x y c).1 = (x - y - c) &&& 255 := fun c => rfl
  have e2 : ∀ c, x2_is (x2_taken σ x y c).2 2 = if (x - y - c) &&& 255 = 0 then 1 else 0 := fun c => is2_by _ _ _
  have e3 : m_flag σ 1 = x2_is σ 2 := m_flag_1 σ
  rw [e2, e1, e3]
  generalize (x - y - (if x2_is σ 1 = 0 then (0 : Int32) else 1)) &&& 255 = q
  have e4 : (if ¬ q = 0 ∨ x2_is σ 2 = 0 then (0 : Int32) else 1) = if (if q = 0 then (1 : Int32) else 0) = 0 ∨ x2_is σ 2 = 0 then 0 else 1 := by
    by_cases h : q = 0
    · simp [h]
    · simp [h]
  rw [e4]
  rfl
theorem logic_eq (σ : Sg) {x : Int32} (hx : rg 0 255 x) : m_logic σ x = x2_logic σ x := by
  unfold m_logic x2_logic
  simp only [lt_g]
  have h := by_eq σ x 0 (rg_w rl_0 (by decide) (by decide))
  rw [m255 hx] at h
  rw [h, m255 hx]
theorem dbl (x : Int32) : 2 * x = x <<< (1 : Int32) := by
  apply Int32.toBitVec_inj.mp
  apply BitVec.eq_of_toNat_eq
  rw [pk_shl x 1 1 (by decide +kernel), Int32.toBitVec_mul, BitVec.toNat_mul]
  have : (2 : Int32).toBitVec.toNat = 2 := by decide +kernel
  rw [this, Nat.mul_comm]
theorem product_eq (σ : Sg) (x y : Int32) : m_product σ x y = x2_product σ x y := by
  unfold m_product x2_product
  refine lt_e rfl (fun z7 => ?_)
  refine lt_e (by rw [setFlag_set, bsh0]) (fun s15 => ?_)
  refine lt_e (by rw [dbl]) (fun z => ?_)
  rw [lt_g (z &&& 65535)]
  refine lt_e (by rw [msetptr, toPair16]) (fun s => ?_)
  refine lt_e rfl (fun z => ?_)
  refine lt_e (by rw [setFlag_set, bsh1]) (fun s => rfl)
theorem next_eq (σ : Sg) (ok : XOK σ) : m_next σ = x2_next σ := by
  unfold m_next x2_next m_code x10_word x2_go
  simp only [lt_g]
  rw [m2047 (xr0_0 ok)]
theorem isLong_eq (σ : Sg) (x : Int32) : x2_isLong σ x = if (x &&& 64527 = 36864) ∨ (x &&& 65036 = 37900) then 1 else 0 := rfl
theorem skip1 (σ : Sg) (ok : XOK σ) : x2_skip σ 1 = (1 + (m_skips σ).1, (m_skips σ).2) := by
  unfold x2_skip m_skips
  rw [if_neg (by decide)]
  have ok2 : XOK (x2_next σ).2 := (ok_x2_next σ ok).1
  rw [next_eq σ ok, lt_g (x2_next σ), lt_g (x2_next σ), next_eq _ ok2, isLong_eq]
  by_cases h : ((x2_next σ).1 &&& 64527 = 36864) ∨ ((x2_next σ).1 &&& 65036 = 37900)
  · rw [if_pos h, if_pos h, if_neg (by decide), lt_g, lt_g]
    rw [show (1 : Int32) + 2 = 3 by decide]
  · rw [if_neg h, if_neg h, if_pos rfl]
    rw [show (1 : Int32) + 1 = 2 by decide]
theorem skip0 (σ : Sg) : x2_skip σ 0 = (1, σ) := rfl
