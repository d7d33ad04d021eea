/-! PLAIN LAW 13: stores into the watchdog -/
set_option maxRecDepth 100000
theorem absorb8 {a w : Int32} (h : ¬ (a &&& 8 = 0) → ¬ (w &&& 8 = 0)) : w ||| (a &&& 8) = w := by
  rcases and_pow a (f := 8) 3 (by decide) (by decide +kernel) with q | q
  · rw [q]; apply i32_ext; intro i hi; rw [gl_or, gl_zero, Bool.or_false]
  · have h2 := h (by rw [q]; decide)
    rcases and_pow w (f := 8) 3 (by decide) (by decide +kernel) with q2 | q2
    · exact absurd q2 h2
    · rw [q, ← q2]
      apply i32_ext; intro i hi; rw [gl_or, gl_and]
      cases w.toBitVec.getLsbD i <;> simp
theorem or8 (a w : Int32) (h : ¬ (a &&& 8 = 0)) : ¬ ((w ||| (a &&& 8)) &&& 8 = 0) := by
  intro q
  rcases and_pow a (f := 8) 3 (by decide) (by decide +kernel) with q2 | q2
  · exact h q2
  · rw [q2, bit_mask _ 3 (by decide) (by decide +kernel), gl_or] at q
    have : (8 : Int32).toBitVec.getLsbD 3 = true := by decide +kernel
    rw [this] at q; simp at q
def dogV (a v : Int32) : Int32 := ((if (v &&& 128) = 0 then a else a &&& 127) &&& (-65)) ||| (v &&& 64)
theorem dogV_m {a v : Int32} (ha : rg 0 255 a) : ((a &&& (if (v &&& 128) = 0 then 255 else 127)) &&& 191) ||| (v &&& 64) = dogV a v := by
  unfold dogV
  by_cases p : v &&& 128 = 0
  · rw [if_pos p, if_pos p, m255 ha, byte_and (p := 191) (q := -65) ha (by decide)]
  · rw [if_neg p, if_neg p, byte_and (p := 191) (q := -65) (rg_and_l ha) (by decide)]
theorem dogV_8 {a v : Int32} (h : ¬ (a &&& 8 = 0)) : ¬ (dogV a v &&& 8 = 0) := by
  intro q
  apply h
  rw [bit_mask _ 3 (by decide) (by decide +kernel)] at q ⊢
  unfold dogV at q
  have c1 : (-65 : Int32).toBitVec.getLsbD 3 = true := by decide +kernel
  have c2 : (64 : Int32).toBitVec.getLsbD 3 = false := by decide +kernel
  have c3 : (127 : Int32).toBitVec.getLsbD 3 = true := by decide +kernel
  by_cases p : v &&& 128 = 0
  · rw [if_pos p, gl_or, gl_and, gl_and, c1, c2] at q; simpa using q
  · rw [if_neg p, gl_or, gl_and, gl_and, gl_and, c1, c2, c3] at q; simpa using q
theorem or16_8 {w : Int32} (h : ¬ (w &&& 8 = 0)) : ¬ ((w ||| 16) &&& 8 = 0) := by
  intro q
  apply h
  rw [bit_mask _ 3 (by decide) (by decide +kernel)] at q ⊢
  rw [gl_or] at q
  have c : (16 : Int32).toBitVec.getLsbD 3 = false := by decide +kernel
  rw [c] at q; simpa using q
theorem xstore96 (σ : Sg) (v : Int32) : x2_store σ 96 v = x8_store σ 96 (v &&& 255) := rfl
theorem mstore96 (σ : Sg) (v : Int32) : m_store σ 96 v = m_storeDog σ v := rfl
theorem x8_96 (σ : Sg) (v : Int32) : x8_store σ 96 v = if (¬ ((dogV (σ 1 96) v &&& 16) = 0)) ∧ ((v &&& 16) = 0) then sst (sst σ 0 23 0) 1 96 (((dogV (σ 1 96) v &&& 192) ||| (v &&& 47)) ||| ((σ 1 84) &&& 8)) else if (v &&& 24) = 24 then sst (sst σ 0 23 4) 1 96 (dogV (σ 1 96) v ||| 16) else sst σ 1 96 (dogV (σ 1 96) v) := by
  unfold x8_store
  refine lt_l (lt_l (lt_l ?_))
  show lt (if (¬ ((dogV (σ 1 96) v &&& 16) = 0)) ∧ ((v &&& 16) = 0) then _ else _) _ = _
  by_cases c1 : (¬ ((dogV (σ 1 96) v &&& 16) = 0)) ∧ ((v &&& 16) = 0)
  · rw [if_pos c1, if_pos c1]; rfl
  · rw [if_neg c1, if_neg c1]
    by_cases c2 : (v &&& 24) = 24
    · rw [if_pos c2, if_pos c2]; rfl
    · rw [if_neg c2, if_neg c2]; rfl
theorem md_96 (σ : Sg) (v : Int32) (h : rg 0 255 (σ 1 96)) : m_storeDog σ v = m_holdDog (if (¬ ((dogV (σ 1 96) v &&& 16) = 0)) ∧ ((v &&& 16) = 0) then sst (sst σ 0 23 0) 1 96 ((dogV (σ 1 96) v &&& 192) ||| (v &&& 47)) else if (v &&& 24) = 24 then sst (sst σ 0 23 4) 1 96 (dogV (σ 1 96) v ||| 16) else sst σ 1 96 (dogV (σ 1 96) v)) := by
  unfold m_storeDog
  refine lt_l (lt_l ?_)
  rw [dogV_m h]
  refine lt_l ?_
  generalize dogV (σ 1 96) v = V
  by_cases c1 : (¬ ((V &&& 16) = 0)) ∧ ((v &&& 16) = 0)
  · rw [if_pos c1, if_neg (by rintro (z | z); exact c1.1 z; exact z c1.2)]; rfl
  · rw [if_neg c1, if_pos (by
      by_cases q : V &&& 16 = 0
      · exact Or.inl q
      · exact Or.inr (fun z => c1 ⟨q, z⟩))]
    by_cases c2 : (v &&& 24) = 24
    · rw [if_pos c2, if_pos c2]; rfl
    · rw [if_neg c2, if_neg c2]; rfl
theorem hold_eq (σ : Sg) : m_holdDog σ = sst σ 1 96 ((σ 1 96) ||| ((σ 1 84) &&& 8)) := rfl
theorem hold_sst (σ : Sg) (v : Int32) : m_holdDog (sst σ 1 96 v) = sst σ 1 96 (v ||| ((σ 1 84) &&& 8)) := by
  rw [hold_eq, sst_eq, sst_sst, sst_ne_j _ _ (by decide)]
theorem R_96 {b : Bool} {σ τ : Sg} (h : R b σ τ) {v : Int32} (hv : ¬ (σ 1 84 &&& 8 = 0) → ¬ (v &&& 8 = 0)) : R b (sst σ 1 96 v) (sst τ 1 96 v) :=
  R_da h rfl (fun q => absurd q (by decide)) (fun q => absurd q (by decide)) (fun q => absurd q (by decide)) (fun q => absurd q (by decide)) (fun _ => hv) (fun _ _ q => by cases q)
theorem R_23 {b : Bool} {σ τ : Sg} (h : R b σ τ) {v : Int32} (hv : 0 ≤ v.toInt) : R b (sst σ 0 23 v) (sst τ 0 23 v) := R_scal h rfl rfl (fun _ => hv)
theorem R_store_96 {b : Bool} {σ τ : Sg} (h : R b σ τ) (ok : XOK σ) {v : Int32} (hv : rg 0 255 v) : R b (x2_store σ 96 v) (m_store τ 96 v) := by
  have h96 : σ 1 96 = τ 1 96 := h.da 96 rfl
  have h84 : σ 1 84 = τ 1 84 := h.da 84 rfl
  have rk := xr_1 ok 96
  rw [xstore96, mstore96, m255 hv, x8_96, md_96 τ v (by rw [← h96]; exact rk), ← h96]
  have d8 : ¬ (σ 1 84 &&& 8 = 0) → ¬ (dogV (σ 1 96) v &&& 8 = 0) := fun q => dogV_8 (h.dg q)
  generalize dogV (σ 1 96) v = V at d8 ⊢
  by_cases c1 : (¬ ((V &&& 16) = 0)) ∧ ((v &&& 16) = 0)
  · rw [if_pos c1, if_pos c1, hold_sst, sst_ne_k _ _ (by decide), ← h84]
    exact R_96 (R_23 h (by decide)) (fun q => or8 _ _ q)
  · rw [if_neg c1, if_neg c1]
    by_cases c2 : (v &&& 24) = 24
    · rw [if_pos c2, if_pos c2, hold_sst, sst_ne_k _ _ (by decide), ← h84, absorb8 (fun q => or16_8 (d8 q))]
      exact R_96 (R_23 h (by decide)) (fun q => or16_8 (d8 q))
    · rw [if_neg c2, if_neg c2, hold_sst, ← h84, absorb8 d8]
      exact R_96 h d8
