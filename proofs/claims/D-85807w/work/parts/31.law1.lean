/-! PLAIN LAW 1: updates, flags, arithmetic on bytes -/
set_option maxRecDepth 100000
theorem sst_eq (σ : Sg) (k j : Nat) (v : Int32) : sst σ k j v k j = v := by simp [sst, upd]
theorem sst_ne_j (σ : Sg) {k j i : Nat} (v : Int32) (h : i ≠ j) : sst σ k j v k i = σ k i := by simp [sst, upd, h]
theorem sst_ne_k (σ : Sg) {k j a i : Nat} (v : Int32) (h : a ≠ k) : sst σ k j v a i = σ a i := by simp [sst, h]
theorem sst_row (σ : Sg) {k j a : Nat} (v : Int32) (h : a ≠ k) : sst σ k j v a = σ a := by simp [sst, h]
theorem sst_get (σ : Sg) (k j a i : Nat) (v : Int32) : sst σ k j v a i = if a = k ∧ i = j then v else σ a i := by
  unfold sst upd
  by_cases h : a = k
  · by_cases h2 : i = j <;> simp [h, h2]
  · simp [h]
theorem sst_sst (σ : Sg) (k j : Nat) (v w : Int32) : sst (sst σ k j v) k j w = sst σ k j w := by
  funext a i
  rw [sst_get, sst_get, sst_get]
  by_cases h : a = k ∧ i = j <;> simp [h]
theorem sst_comm (σ : Sg) {k j k2 j2 : Nat} (v w : Int32) (h : ¬ (k = k2 ∧ j = j2)) : sst (sst σ k j v) k2 j2 w = sst (sst σ k2 j2 w) k j v := by
  funext a i
  simp only [sst_get]
  by_cases h1 : a = k ∧ i = j <;> by_cases h2 : a = k2 ∧ i = j2
  · exact absurd ⟨h1.1.symm.trans h2.1, h1.2.symm.trans h2.2⟩ h
  · rw [if_neg h2, if_pos h1, if_pos h1]
  · rw [if_pos h2, if_neg h1, if_pos h2]
  · rw [if_neg h2, if_neg h1, if_neg h1, if_neg h2]
theorem sst_id (σ : Sg) (k j : Nat) : sst σ k j (σ k j) = σ := by
  funext a i
  rw [sst_get]
  by_cases h : a = k ∧ i = j
  · rw [if_pos h, h.1, h.2]
  · rw [if_neg h]
/-- one flag of a byte -/
def sf (s f v : Int32) : Int32 := if v = 0 then s &&& (f ^^^ (-1)) else s ||| f
theorem x2_set_eq (σ : Sg) (f v : Int32) : x2_set σ f v = sst σ 1 95 (sf (σ 1 95) f v) := rfl
theorem m_setFlag_eq (σ : Sg) (b v : Int32) : m_setFlag σ b v = sst σ 1 95 (sf (σ 1 95) ((1 : Int32) <<< (b &&& 31)) v) := rfl
theorem i32_ext {x y : Int32} (h : ∀ i, i < 32 → x.toBitVec.getLsbD i = y.toBitVec.getLsbD i) : x = y :=
  Int32.toBitVec_inj.mp (BitVec.eq_of_getLsbD_eq h)
theorem gl_and (x y : Int32) (i : Nat) : (x &&& y).toBitVec.getLsbD i = (x.toBitVec.getLsbD i && y.toBitVec.getLsbD i) := by
  rw [Int32.toBitVec_and, BitVec.getLsbD_and]
theorem gl_or (x y : Int32) (i : Nat) : (x ||| y).toBitVec.getLsbD i = (x.toBitVec.getLsbD i || y.toBitVec.getLsbD i) := by
  rw [Int32.toBitVec_or, BitVec.getLsbD_or]
theorem gl_xor (x y : Int32) (i : Nat) : (x ^^^ y).toBitVec.getLsbD i = (x.toBitVec.getLsbD i ^^ y.toBitVec.getLsbD i) := by
  rw [Int32.toBitVec_xor, BitVec.getLsbD_xor]
theorem gl_m1 : ∀ i, i < 32 → (-1 : Int32).toBitVec.getLsbD i = true := by decide +kernel
theorem gl_zero (i : Nat) : (0 : Int32).toBitVec.getLsbD i = false := by simp
theorem and_disj {f g : Int32} (h : f &&& g = 0) (i : Nat) : ¬ (f.toBitVec.getLsbD i = true ∧ g.toBitVec.getLsbD i = true) := by
  intro q
  have h1 : (f &&& g).toBitVec.getLsbD i = false := by rw [h]; exact gl_zero i
  rw [gl_and, q.1, q.2] at h1
  cases h1
theorem sf_comm (s : Int32) {f g : Int32} (a b : Int32) (h : f &&& g = 0) : sf (sf s f a) g b = sf (sf s g b) f a := by
  apply i32_ext
  intro i hi
  have h1 := and_disj h i
  have h2 := gl_m1 i hi
  unfold sf
  by_cases ha : a = 0 <;> by_cases hb : b = 0 <;> simp only [ha, hb, if_true, if_false, gl_and, gl_or, gl_xor, h2] <;> revert h1 <;> cases s.toBitVec.getLsbD i <;> cases f.toBitVec.getLsbD i <;> cases g.toBitVec.getLsbD i <;> decide
theorem sf_and_ne (s : Int32) {f g : Int32} (a : Int32) (h : f &&& g = 0) : sf s f a &&& g = s &&& g := by
  apply i32_ext
  intro i hi
  have h1 := and_disj h i
  have h2 := gl_m1 i hi
  unfold sf
  by_cases ha : a = 0 <;> simp only [ha, if_true, if_false, gl_and, gl_or, gl_xor, h2] <;> revert h1 <;> cases s.toBitVec.getLsbD i <;> cases f.toBitVec.getLsbD i <;> cases g.toBitVec.getLsbD i <;> decide
theorem sf_and_self (s f a : Int32) : sf s f a &&& f = if a = 0 then 0 else f := by
  unfold sf
  by_cases ha : a = 0
  · rw [if_pos ha, if_pos ha]
    apply i32_ext
    intro i hi
    simp only [gl_and, gl_xor, gl_m1 i hi, gl_zero]
    cases s.toBitVec.getLsbD i <;> cases f.toBitVec.getLsbD i <;> rfl
  · rw [if_neg ha, if_neg ha]
    apply i32_ext
    intro i hi
    simp only [gl_and, gl_or]
    cases s.toBitVec.getLsbD i <;> cases f.toBitVec.getLsbD i <;> rfl
theorem sf_sf (s f a b : Int32) : sf (sf s f a) f b = sf s f b := by
  apply i32_ext
  intro i hi
  have h2 := gl_m1 i hi
  unfold sf
  by_cases ha : a = 0 <;> by_cases hb : b = 0 <;> simp only [ha, hb, if_true, if_false, gl_and, gl_or, gl_xor, h2] <;> cases s.toBitVec.getLsbD i <;> cases f.toBitVec.getLsbD i <;> rfl
/-- a bit, by shift or by mask -/
theorem shr1_bit (s : Int32) (n k : Int32) (f : Int32) (m : Nat) (hm : m < 32) (hn : (n.toBitVec.smod 32).toNat = m) (hf : f.toBitVec = BitVec.twoPow 32 m) : ((s >>> n) &&& 1 = 1) ↔ ¬ (s &&& f = 0) := by
  have e1 : ∀ i, i < 32 → ((s >>> n) &&& 1).toBitVec.getLsbD i = (decide (i = 0) && s.toBitVec.getLsbD m) := by
    intro i hi
    rw [gl_and]
    have h3 : (s >>> n).toBitVec = s.toBitVec.sshiftRight m := by
      rw [Int32.toBitVec_shiftRight, BitVec.sshiftRight', hn]
    rw [h3, BitVec.getLsbD_sshiftRight]
    by_cases h0 : i = 0
    · subst h0
      have : (1 : Int32).toBitVec.getLsbD 0 = true := by decide +kernel
      rw [this]
      simp [hm]
    · have : (1 : Int32).toBitVec.getLsbD i = false := by
        have q : ∀ j, j < 32 → j ≠ 0 → (1 : Int32).toBitVec.getLsbD j = false := by decide +kernel
        exact q i hi h0
      rw [this]
      simp [h0]
  have e2 : ∀ i, i < 32 → (s &&& f).toBitVec.getLsbD i = (decide (i = m) && s.toBitVec.getLsbD m) := by
    intro i hi
    rw [gl_and, hf, BitVec.getLsbD_twoPow]
    by_cases h0 : i = m
    · subst h0; simp [hi]
    · simp [h0, Ne.symm h0]
  constructor
  · intro h q
    have h1 := e1 0 (by decide)
    have h2 := e2 m hm
    rw [h] at h1
    rw [q, gl_zero] at h2
    have h4 : (1 : Int32).toBitVec.getLsbD 0 = true := by decide +kernel
    rw [h4] at h1
    simp at h1 h2
    rw [h1] at h2
    cases h2
  · intro h
    have hs : s.toBitVec.getLsbD m = true := by
      cases q : s.toBitVec.getLsbD m with
      | true => rfl
      | false =>
        exfalso
        apply h
        apply i32_ext
        intro i hi
        rw [e2 i hi, q, gl_zero]
        simp
    apply i32_ext
    intro i hi
    rw [e1 i hi, hs]
    have q : ∀ j, j < 32 → (1 : Int32).toBitVec.getLsbD j = decide (j = 0) := by decide +kernel
    rw [q i hi]
    simp
