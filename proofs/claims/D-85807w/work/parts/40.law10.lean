/-! PLAIN LAW 10: the line's status; load -/
set_option maxRecDepth 100000
theorem o2 {c : Prop} [Decidable c] {k : Int32} : (if c then k else 0) = 0 ∨ (if c then k else 0) = k := by
  by_cases h : c
  · right; rw [if_pos h]
  · left; rw [if_neg h]
theorem o2n {c : Prop} [Decidable c] {k : Int32} : (if c then 0 else k) = 0 ∨ (if c then 0 else k) = k := by
  by_cases h : c
  · left; rw [if_pos h]
  · right; rw [if_neg h]
def stv (a b c d e : Int32) : Int32 := (((a ||| b) ||| c) ||| d) ||| e
def stk (a b c d e : Int32) : Prop := (a = 0 ∨ a = 128) ∧ (b = 0 ∨ b = 64) ∧ (c = 0 ∨ c = 32) ∧ (d = 0 ∨ d = 8) ∧ (e = 0 ∨ e = 2)
theorem st_d0 {a b c d e : Int32} (h : stk a b c d e) : stv a b c d e &&& 247 = stv a b c 0 e := by
  obtain ⟨ha, hb, hc, hd, he⟩ := h
  rcases ha with rfl | rfl <;> rcases hb with rfl | rfl <;> rcases hc with rfl | rfl <;> rcases hd with rfl | rfl <;> rcases he with rfl | rfl <;> decide
theorem st_d1 {a b c d e : Int32} (h : stk a b c d e) : stv a b c d e ||| 8 = stv a b c 8 e := by
  obtain ⟨ha, hb, hc, hd, he⟩ := h
  rcases ha with rfl | rfl <;> rcases hb with rfl | rfl <;> rcases hc with rfl | rfl <;> rcases hd with rfl | rfl <;> rcases he with rfl | rfl <;> decide
theorem st_a {a b c d e a' : Int32} (h : stk a b c d e) (ha' : a' = 0 ∨ a' = 128) : (stv a b c d e &&& 127) ||| a' = stv a' b c d e := by
  obtain ⟨ha, hb, hc, hd, he⟩ := h
  rcases ha' with rfl | rfl <;> rcases ha with rfl | rfl <;> rcases hb with rfl | rfl <;> rcases hc with rfl | rfl <;> rcases hd with rfl | rfl <;> rcases he with rfl | rfl <;> decide
theorem st_c0 {a b c d e : Int32} (h : stk a b c d e) : stv a b c d e &&& 223 = stv a b 0 d e := by
  obtain ⟨ha, hb, hc, hd, he⟩ := h
  rcases ha with rfl | rfl <;> rcases hb with rfl | rfl <;> rcases hc with rfl | rfl <;> rcases hd with rfl | rfl <;> rcases he with rfl | rfl <;> decide
theorem st_c1 {a b c d e : Int32} (h : stk a b c d e) : stv a b c d e ||| 32 = stv a b 32 d e := by
  obtain ⟨ha, hb, hc, hd, he⟩ := h
  rcases ha with rfl | rfl <;> rcases hb with rfl | rfl <;> rcases hc with rfl | rfl <;> rcases hd with rfl | rfl <;> rcases he with rfl | rfl <;> decide
theorem st_b0 {a b c d e : Int32} (h : stk a b c d e) : stv a b c d e &&& 191 = stv a 0 c d e := by
  obtain ⟨ha, hb, hc, hd, he⟩ := h
  rcases ha with rfl | rfl <;> rcases hb with rfl | rfl <;> rcases hc with rfl | rfl <;> rcases hd with rfl | rfl <;> rcases he with rfl | rfl <;> decide
theorem st_b1 {a b c d e : Int32} (h : stk a b c d e) : stv a b c d e ||| 64 = stv a 64 c d e := by
  obtain ⟨ha, hb, hc, hd, he⟩ := h
  rcases ha with rfl | rfl <;> rcases hb with rfl | rfl <;> rcases hc with rfl | rfl <;> rcases hd with rfl | rfl <;> rcases he with rfl | rfl <;> decide
theorem st_e {a b c d e e' : Int32} (h : stk a b c d e) (he' : e' = 0 ∨ e' = 2) : (stv a b c d e &&& 253) ||| e' = stv a b c d e' := by
  obtain ⟨ha, hb, hc, hd, he⟩ := h
  rcases he' with rfl | rfl <;> rcases ha with rfl | rfl <;> rcases hb with rfl | rfl <;> rcases hc with rfl | rfl <;> rcases hd with rfl | rfl <;> rcases he with rfl | rfl <;> decide
theorem st_be {a b c d e e' : Int32} (h : stk a b c d e) (he' : e' = 0 ∨ e' = 2) : (stv a b c d e &&& 189) ||| e' = stv a 0 c d e' := by
  obtain ⟨ha, hb, hc, hd, he⟩ := h
  rcases he' with rfl | rfl <;> rcases ha with rfl | rfl <;> rcases hb with rfl | rfl <;> rcases hc with rfl | rfl <;> rcases hd with rfl | rfl <;> rcases he with rfl | rfl <;> decide
theorem st_is32 {a b c d e : Int32} (h : stk a b c d e) : stv a b c d e &&& 32 = 0 ↔ c = 0 := by
  obtain ⟨ha, hb, hc, hd, he⟩ := h
  rcases ha with rfl | rfl <;> rcases hb with rfl | rfl <;> rcases hc with rfl | rfl <;> rcases hd with rfl | rfl <;> rcases he with rfl | rfl <;> decide
theorem st_is2 {a b c d e : Int32} (h : stk a b c d e) : stv a b c d e &&& 2 = 0 ↔ e = 0 := by
  obtain ⟨ha, hb, hc, hd, he⟩ := h
  rcases ha with rfl | rfl <;> rcases hb with rfl | rfl <;> rcases hc with rfl | rfl <;> rcases hd with rfl | rfl <;> rcases he with rfl | rfl <;> decide
theorem st_v (σ : Sg) : x6_state σ = stv (if 0 < (σ 0 18) then 128 else 0) (if (σ 0 32) = 0 then 0 else 64) (if (σ 0 11) < 0 then 32 else 0) (if (σ 0 31) = 0 then 0 else 8) (if (σ 0 33) = 0 then 0 else 2) := rfl
theorem st_k (σ : Sg) : stk (if 0 < (σ 0 18) then 128 else 0) (if (σ 0 32) = 0 then 0 else 64) (if (σ 0 11) < 0 then 32 else 0) (if (σ 0 31) = 0 then 0 else 8) (if (σ 0 33) = 0 then 0 else 2) := ⟨o2, o2n, o2, o2n, o2n⟩
theorem R_load_198 {b : Bool} {σ τ : Sg} (h : R b σ τ) : RP b (x2_load σ 198) (m_load τ 198) := by
  have h16 : σ 0 16 = τ 0 16 := h.sc 16 rfl
  have h17 : σ 0 17 = τ 0 17 := h.sc 17 rfl
  have h18 : σ 0 18 = τ 0 18 := h.sc 18 rfl
  rw [xload198, mload198, ← h18, ← h16, ← h17]
  refine RP_i rfl ?_
  rw [show_eq]
  by_cases p : 0 < σ 0 18
  · rw [if_pos p, if_pos p]
    refine R_line h ?_ ?_ ?_ ?_ ?_ ?_ ?_ ?_ ?_ ?_
    · intro j a1 a2 a3 a4 a5 a6 a7 a8
      simp [sst_get, a1, a2, a3, a4, a5, a6, a7, a8]
    · simp [sst_get]; exact h.sc 11 rfl
    · simp [sst_get]; exact h.sc 14 rfl
    · simp [sst_get]
    · simp [sst_get]; exact h17
    · simp [sst_get]
    · intro j; simp [sst_get]
    · intro j hj; simp [sst_get, hj]
    · intro k hk
      have k0 : k ≠ 0 := by omega
      have k1 : k ≠ 1 := by omega
      refine ⟨?_, ?_⟩ <;> funext j <;> simp [sst_get, k0, k1]
    · have s2 := h.s2
      have e : ∀ v : Int32, x6_state (sst (sst (sst σ 0 16 (σ 0 17)) 0 18 v) 0 31 0) = stv (if 0 < v then 128 else 0) (if (σ 0 32) = 0 then 0 else 64) (if (σ 0 11) < 0 then 32 else 0) 0 (if (σ 0 33) = 0 then 0 else 2) := fun v => rfl
      have s3 : τ 1 192 &&& 247 = stv (if 0 < (σ 0 18) then 128 else 0) (if (σ 0 32) = 0 then 0 else 64) (if (σ 0 11) < 0 then 32 else 0) 0 (if (σ 0 33) = 0 then 0 else 2) := by rw [s2, st_v, st_d0 (st_k σ)]
      simp only [sst_get]
      simp
      rw [s3, e]
      exact st_a ⟨(st_k σ).1, (st_k σ).2.1, (st_k σ).2.2.1, Or.inl rfl, (st_k σ).2.2.2.2⟩ o2
  · rw [if_neg p, if_neg p]
    refine R_line h ?_ ?_ ?_ ?_ ?_ ?_ ?_ ?_ ?_ ?_
    · intro j a1 a2 a3 a4 a5 a6 a7 a8
      simp [sst_get, a1, a2, a3, a4, a5, a6, a7, a8]
    · simp [sst_get]; exact h.sc 11 rfl
    · simp [sst_get]; exact h.sc 14 rfl
    · simp [sst_get]; exact h16
    · simp [sst_get]; exact h17
    · simp [sst_get]; exact h18
    · intro j; simp [sst_get]
    · intro j hj; simp [sst_get, hj]
    · intro k hk
      have k0 : k ≠ 0 := by omega
      have k1 : k ≠ 1 := by omega
      refine ⟨?_, ?_⟩ <;> funext j <;> simp [sst_get, k0, k1]
    · have s2 := h.s2
      have e : x6_state (sst σ 0 31 0) = stv (if 0 < σ 0 18 then 128 else 0) (if (σ 0 32) = 0 then 0 else 64) (if (σ 0 11) < 0 then 32 else 0) 0 (if (σ 0 33) = 0 then 0 else 2) := rfl
      have s3 : τ 1 192 &&& 247 = stv (if 0 < (σ 0 18) then 128 else 0) (if (σ 0 32) = 0 then 0 else 64) (if (σ 0 11) < 0 then 32 else 0) 0 (if (σ 0 33) = 0 then 0 else 2) := by rw [s2, st_v, st_d0 (st_k σ)]
      simp only [sst_get]
      simp
      rw [s3, e, ← h18]
      exact st_a ⟨(st_k σ).1, (st_k σ).2.1, (st_k σ).2.2.1, Or.inl rfl, (st_k σ).2.2.2.2⟩ o2
theorem R_load {b : Bool} {σ τ : Sg} (h : R b σ τ) {a : Int32} (ha : rg 0 65535 a) : RP b (x2_load σ a) (m_load τ a) := by
  by_cases h35 : a = 35
  · rw [h35]; exact R_load_35 h
  by_cases h63 : a = 63
  · rw [h63]; exact R_load_63 h
  by_cases h192 : a = 192
  · rw [h192]; exact R_load_192 h
  by_cases h198 : a = 198
  · rw [h198]; exact R_load_198 h
  exact R_load_plain h ha h35 h63 h192 h198
