/-! PLAIN LAW 12: stores into the line, the watchdog -/
set_option maxRecDepth 100000
theorem R_store_192 {b : Bool} {σ τ : Sg} (h : R b σ τ) {v : Int32} (hv : rg 0 255 v) : R b (x2_store σ 192 v) (m_store τ 192 v) := by
  rw [xstore192, mstore192, m255 hv]
  have he : v &&& 2 = 0 ∨ v &&& 2 = 2 := and_pow v 1 (by decide) (by decide +kernel)
  have s2 := h.s2
  by_cases p : v &&& 64 = 0
  · rw [if_pos p, if_pos p]
    refine R_line h ?_ ?_ ?_ ?_ ?_ ?_ ?_ ?_ ?_ ?_
    · intro j a1 a2 a3 a4 a5 a6 a7 a8
      simp [sst_get, a1, a2, a3, a4, a5, a6, a7, a8]
    · simp [sst_get]; exact h.sc 11 rfl
    · simp [sst_get]; exact h.sc 14 rfl
    · simp [sst_get]; exact h.sc 16 rfl
    · simp [sst_get]; exact h.sc 17 rfl
    · simp [sst_get]; exact h.sc 18 rfl
    · intro j; simp [sst_get]
    · intro j hj; simp [sst_get, hj]
    · intro k hk
      have k0 : k ≠ 0 := by omega
      have k1 : k ≠ 1 := by omega
      refine ⟨?_, ?_⟩ <;> funext j <;> simp [sst_get, k0, k1]
    · have e : ∀ w : Int32, x6_state (sst σ 0 33 w) = stv (if 0 < (σ 0 18) then 128 else 0) (if (σ 0 32) = 0 then 0 else 64) (if (σ 0 11) < 0 then 32 else 0) (if (σ 0 31) = 0 then 0 else 8) (if w = 0 then 0 else 2) := fun w => rfl
      rw [sst_eq, e, s2, st_v, st_e (st_k σ) he]
      rcases he with q | q <;> rw [q] <;> rfl
  · rw [if_neg p, if_neg p]
    refine R_line h ?_ ?_ ?_ ?_ ?_ ?_ ?_ ?_ ?_ ?_
    · intro j a1 a2 a3 a4 a5 a6 a7 a8
      simp [sst_get, a1, a2, a3, a4, a5, a6, a7, a8]
    · simp [sst_get]; exact h.sc 11 rfl
    · simp [sst_get]; exact h.sc 14 rfl
    · simp [sst_get]; exact h.sc 16 rfl
    · simp [sst_get]; exact h.sc 17 rfl
    · simp [sst_get]; exact h.sc 18 rfl
    · intro j; simp [sst_get]
    · intro j hj; simp [sst_get, hj]
    · intro k hk
      have k0 : k ≠ 0 := by omega
      have k1 : k ≠ 1 := by omega
      refine ⟨?_, ?_⟩ <;> funext j <;> simp [sst_get, k0, k1]
    · have e : ∀ w : Int32, x6_state (sst (sst σ 0 33 w) 0 32 0) = stv (if 0 < (σ 0 18) then 128 else 0) 0 (if (σ 0 11) < 0 then 32 else 0) (if (σ 0 31) = 0 then 0 else 8) (if w = 0 then 0 else 2) := fun w => rfl
      rw [sst_eq, e, s2, st_v, st_be (st_k σ) he]
      rcases he with q | q <;> rw [q] <;> rfl
/-- 11 set on both sides, its bit in 192 -/
theorem R_11 {b : Bool} {σ τ : Sg} (h : R b σ τ) (v w : Int32) (hw : w = x6_state (sst σ 0 11 v)) : R b (sst σ 0 11 v) (sst (sst τ 0 11 v) 1 192 w) := by
  refine R_line h ?_ ?_ ?_ ?_ ?_ ?_ ?_ ?_ ?_ ?_
  · intro j a1 a2 a3 a4 a5 a6 a7 a8
    simp [sst_get, a1, a2, a3, a4, a5, a6, a7, a8]
  · simp [sst_get]
  · simp [sst_get]; exact h.sc 14 rfl
  · simp [sst_get]; exact h.sc 16 rfl
  · simp [sst_get]; exact h.sc 17 rfl
  · simp [sst_get]; exact h.sc 18 rfl
  · intro j; simp [sst_get]
  · intro j hj; simp [sst_get, hj]
  · intro k hk
    have k0 : k ≠ 0 := by omega
    have k1 : k ≠ 1 := by omega
    refine ⟨?_, ?_⟩ <;> funext j <;> simp [sst_get, k0, k1]
  · rw [sst_eq, hw]
theorem st_11 (σ : Sg) (v : Int32) : x6_state (sst σ 0 11 v) = stv (if 0 < (σ 0 18) then 128 else 0) (if (σ 0 32) = 0 then 0 else 64) (if v < 0 then 32 else 0) (if (σ 0 31) = 0 then 0 else 8) (if (σ 0 33) = 0 then 0 else 2) := rfl
theorem R_11m {b : Bool} {σ τ : Sg} (h : R b σ τ) : R b (sst σ 0 11 (-1)) (sst (sst τ 0 11 (-1)) 1 192 (((sst τ 0 11 (-1)) 1 192) ||| 32)) := by
  refine R_11 h _ _ ?_
  rw [sst_row τ _ (by decide), h.s2, st_11, st_v, st_c1 (st_k σ)]
  rfl
theorem R_11v {b : Bool} {σ τ : Sg} (h : R b σ τ) {v : Int32} (hv : ¬ v < 0) : R b (sst σ 0 11 v) (sst (sst τ 0 11 v) 1 192 (((sst τ 0 11 v) 1 192) &&& 223)) := by
  refine R_11 h _ _ ?_
  rw [sst_row τ _ (by decide), h.s2, st_11, st_v, st_c0 (st_k σ), if_neg hv]
theorem R_store_193 {b : Bool} {σ τ : Sg} (h : R b σ τ) {v : Int32} (hv : rg 0 255 v) : R b (x2_store σ 193 v) (m_store τ 193 v) := by
  rw [xstore193, mstore193, m255 hv]
  have h2 : R b (sst σ 1 193 v) (sst τ 1 193 v) := R_da h rfl (fun q => absurd q (by decide)) (fun q => absurd q (by decide)) (fun q => absurd q (by decide)) (fun q => absurd q (by decide)) (fun q => absurd q (by decide)) (fun _ _ q => by cases q)
  exact ite_R (fun _ => R_11m h2) (fun _ => h2)
theorem R_store_198 {b : Bool} {σ τ : Sg} (h : R b σ τ) {v : Int32} (hv : rg 0 255 v) : R b (x2_store σ 198 v) (m_store τ 198 v) := by
  rw [xstore198, mstore198, m255 hv, ← h.da 193 rfl]
  have e : (σ 0 11 < 0) ↔ ¬ (τ 1 192 &&& 32 = 0) := by
    rw [h.s2, st_v, st_is32 (st_k σ)]
    by_cases q : σ 0 11 < 0
    · rw [if_pos q]; exact ⟨fun _ => by decide, fun _ => q⟩
    · rw [if_neg q]; exact ⟨fun z => absurd z q, fun z => absurd rfl z⟩
  by_cases p : (¬ (((σ 1 193) &&& 8) = 0)) ∧ ((σ 0 11) < 0)
  · rw [if_pos p, if_neg (by rintro (z | z); exact p.1 z; exact (e.mp p.2) z)]
    exact R_11v h (nneg hv)
  · rw [if_neg p, if_pos (by
      by_cases q : (σ 1 193) &&& 8 = 0
      · exact Or.inl q
      · right
        by_cases q2 : τ 1 192 &&& 32 = 0
        · exact q2
        · exact absurd ⟨q, e.mpr q2⟩ p)]
    exact h
