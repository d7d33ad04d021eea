/-! PLAIN LAW 30: the model's restart, and the relation after it -/
set_option maxRecDepth 100000
def rsC (T : Sg) (v : Int32) : Sg := sst (sst (sst (sst (sst (sst (sst (sst (sst (sst (sst (sst (sst (sst (sst (sst (sst (fun a j => if a = 1 ∧ 32 ≤ j ∧ j < 32 + 224 then 0 else T a j) 1 192 32) 1 84 v) 0 0 (if (T 0 29) = 1 then 1536 else 0)) 0 6 0) 0 7 0) 0 27 0) 0 10 0) 0 24 0) 0 22 0) 0 26 0) 0 23 0) 0 25 0) 0 21 0) 0 11 (-1)) 0 13 0) 0 15 0) 0 18 0
def zM (j : Nat) : Bool := j == 6 || (j == 7 || (j == 10 || (j == 13 || (j == 15 || (j == 18 || (decide (21 ≤ j) && decide (j ≤ 27)))))))
theorem zM_iff (j : Nat) : zM j = true ↔ (j = 6 ∨ j = 7 ∨ j = 10 ∨ j = 13 ∨ j = 15 ∨ j = 18 ∨ (21 ≤ j ∧ j ≤ 27)) := by
  unfold zM; simp
theorem zs_get : ∀ (L : List Nat) (S : Sg) (a j : Nat), (L.foldl (fun s i => sst s 0 i 0) S) a j = if a = 0 ∧ j ∈ L then 0 else S a j := by
  intro L
  induction L with
  | nil => intro S a j; rw [if_neg (fun z => by cases z.2)]; rfl
  | cons i L ih =>
    intro S a j
    show (L.foldl (fun s i => sst s 0 i 0) (sst S 0 i 0)) a j = _
    rw [ih, sst_get]
    by_cases h1 : a = 0 ∧ j ∈ L
    · rw [if_pos h1, if_pos ⟨h1.1, List.mem_cons_of_mem _ h1.2⟩]
    · rw [if_neg h1]
      by_cases h2 : a = 0 ∧ j = i
      · rw [if_pos h2, if_pos ⟨h2.1, by rw [h2.2]; exact List.mem_cons_self⟩]
      · rw [if_neg h2, if_neg]
        rintro ⟨z1, z2⟩
        rcases List.mem_cons.mp z2 with q | q
        · exact h2 ⟨z1, q⟩
        · exact h1 ⟨z1, q⟩
theorem rsC_zs (T : Sg) (v : Int32) : rsC T v = [13, 15, 18].foldl (fun s i => sst s 0 i 0) (sst ([6, 7, 27, 10, 24, 22, 26, 23, 25, 21].foldl (fun s i => sst s 0 i 0) (sst (sst (sst (fun a j => if a = 1 ∧ 32 ≤ j ∧ j < 32 + 224 then 0 else T a j) 1 192 32) 1 84 v) 0 0 (if (T 0 29) = 1 then 1536 else 0))) 0 11 (-1)) := rfl
theorem rsC_get (T : Sg) (v : Int32) (a j : Nat) : rsC T v a j = if a = 0 then (if zM j = true then 0 else if j = 0 then (if (T 0 29) = 1 then 1536 else 0) else if j = 11 then -1 else T 0 j) else if a = 1 then (if j = 84 then v else if j = 192 then 32 else if 32 ≤ j ∧ j < 256 then 0 else T 1 j) else T a j := by
  rw [rsC_zs, zs_get, sst_get, zs_get, sst_get, sst_get, sst_get]
  generalize hp : (if (T 0 29) = 1 then (1536 : Int32) else 0) = p
  have hz := zM_iff j
  have m1 : j ∈ [13, 15, 18] ↔ (j = 13 ∨ j = 15 ∨ j = 18) := by simp
  have m2 : j ∈ [6, 7, 27, 10, 24, 22, 26, 23, 25, 21] ↔ (j = 6 ∨ j = 7 ∨ j = 27 ∨ j = 10 ∨ j = 24 ∨ j = 22 ∨ j = 26 ∨ j = 23 ∨ j = 25 ∨ j = 21) := by simp
  by_cases h0 : a = 0
  · rw [if_pos (c := a = 0) h0]
    by_cases c1 : j ∈ [13, 15, 18]
    · rw [if_pos (c := a = 0 ∧ j ∈ [13, 15, 18]) ⟨h0, c1⟩, if_pos (c := zM j = true) (hz.mpr (by have := m1.mp c1; omega))]
    rw [if_neg (c := a = 0 ∧ j ∈ [13, 15, 18]) (fun z => c1 z.2)]
    by_cases c2 : j = 11
    · rw [if_pos (c := a = 0 ∧ j = 11) ⟨h0, c2⟩, if_neg (c := zM j = true) (by rw [hz]; omega), if_neg (c := j = 0) (by omega), if_pos c2]
    rw [if_neg (c := a = 0 ∧ j = 11) (fun z => c2 z.2)]
    by_cases c3 : j ∈ [6, 7, 27, 10, 24, 22, 26, 23, 25, 21]
    · rw [if_pos (c := a = 0 ∧ j ∈ [6, 7, 27, 10, 24, 22, 26, 23, 25, 21]) ⟨h0, c3⟩, if_pos (c := zM j = true) (hz.mpr (by have := m2.mp c3; omega))]
    rw [if_neg (c := a = 0 ∧ j ∈ [6, 7, 27, 10, 24, 22, 26, 23, 25, 21]) (fun z => c3 z.2)]
    have nz : ¬ zM j = true := by
      intro z
      have h1 := hz.mp z
      have h2 : ¬ (j = 13 ∨ j = 15 ∨ j = 18) := fun q => c1 (m1.mpr q)
      have h3 : ¬ (j = 6 ∨ j = 7 ∨ j = 27 ∨ j = 10 ∨ j = 24 ∨ j = 22 ∨ j = 26 ∨ j = 23 ∨ j = 25 ∨ j = 21) := fun q => c3 (m2.mpr q)
      omega
    rw [if_neg (c := zM j = true) nz]
    by_cases c4 : j = 0
    · rw [if_pos (c := a = 0 ∧ j = 0) ⟨h0, c4⟩, if_pos (c := j = 0) c4]
    rw [if_neg (c := a = 0 ∧ j = 0) (fun z => c4 z.2), if_neg (c := j = 0) c4, if_neg (c := j = 11) c2, if_neg (c := a = 1 ∧ j = 84) (fun z => by have := z.1; omega), if_neg (c := a = 1 ∧ j = 192) (fun z => by have := z.1; omega), if_neg (c := a = 1 ∧ 32 ≤ j ∧ j < 32 + 224) (fun z => by have := z.1; omega), h0]
  · rw [if_neg (c := a = 0 ∧ j ∈ [13, 15, 18]) (fun z => h0 z.1), if_neg (c := a = 0 ∧ j = 11) (fun z => h0 z.1), if_neg (c := a = 0 ∧ j ∈ [6, 7, 27, 10, 24, 22, 26, 23, 25, 21]) (fun z => h0 z.1), if_neg (c := a = 0 ∧ j = 0) (fun z => h0 z.1), if_neg (c := a = 0) h0]
    by_cases h1 : a = 1
    · rw [if_pos (c := a = 1) h1]
      by_cases c1 : j = 84
      · rw [if_pos (c := a = 1 ∧ j = 84) ⟨h1, c1⟩, if_pos c1]
      rw [if_neg (c := a = 1 ∧ j = 84) (fun z => c1 z.2), if_neg (c := j = 84) c1]
      by_cases c2 : j = 192
      · rw [if_pos (c := a = 1 ∧ j = 192) ⟨h1, c2⟩, if_pos c2]
      rw [if_neg (c := a = 1 ∧ j = 192) (fun z => c2 z.2), if_neg (c := j = 192) c2]
      by_cases c3 : 32 ≤ j ∧ j < 256
      · rw [if_pos (c := a = 1 ∧ 32 ≤ j ∧ j < 32 + 224) ⟨h1, c3.1, by omega⟩, if_pos c3]
      · rw [if_neg (c := a = 1 ∧ 32 ≤ j ∧ j < 32 + 224) (fun z => c3 ⟨z.2.1, by omega⟩), if_neg c3, h1]
    · rw [if_neg (c := a = 1 ∧ j = 84) (fun z => h1 z.1), if_neg (c := a = 1 ∧ j = 192) (fun z => h1 z.1), if_neg (c := a = 1 ∧ 32 ≤ j ∧ j < 32 + 224) (fun z => h1 z.1), if_neg (c := a = 1) h1]
def rsM (T : Sg) (v : Int32) : Sg := sst (fun a j => if a = 7 ∧ 0 ≤ j ∧ j < 0 + 32 then 0 else rsC T v a j) 1 96 (v &&& 8)
theorem restart_eq (τ : Sg) (x1 : Int32) : m_restart τ x1 = rsM τ (if x1 = 1 then 1 else ((τ 1 84) ||| x1)) := by
  unfold m_restart
  refine lt_l ?_
  rw [iter_fill 1 0 224 32 τ (by decide)]
  refine lt_l ?_
  refine lt_l ?_
  refine lt_l ?_
  generalize (if x1 = 1 then (1 : Int32) else ((τ 1 84) ||| x1)) = v
  refine lt_l ?_
  have e29 : (sst (sst (fun a j => if a = 1 ∧ 32 ≤ j ∧ j < 32 + 224 then (0 : Int32) else τ a j) 1 192 32) 1 84 v) 0 29 = τ 0 29 := rfl
  rw [e29]
  show m_holdDog (m_clearBuffer (rsC τ v)) = rsM τ v
  rw [clear_eq, hold_eq]
  unfold rsM
  have e96 : (if (1 : Nat) = 7 ∧ 0 ≤ 96 ∧ 96 < 0 + 32 then (0 : Int32) else rsC τ v 1 96) = 0 := by
    rw [if_neg (by omega), rsC_get]; rfl
  have e84 : (if (1 : Nat) = 7 ∧ 0 ≤ 84 ∧ 84 < 0 + 32 then (0 : Int32) else rsC τ v 1 84) = v := by
    rw [if_neg (by omega), rsC_get]; rfl
  show sst _ 1 96 ((if (1 : Nat) = 7 ∧ 0 ≤ 96 ∧ 96 < 0 + 32 then (0 : Int32) else rsC τ v 1 96) ||| ((if (1 : Nat) = 7 ∧ 0 ≤ 84 ∧ 84 < 0 + 32 then (0 : Int32) else rsC τ v 1 84) &&& 8)) = _
  rw [e96, e84, Int32.zero_or]
theorem rsM_get (T : Sg) (v : Int32) (a j : Nat) : rsM T v a j = if a = 0 then (if zM j = true then 0 else if j = 0 then (if (T 0 29) = 1 then 1536 else 0) else if j = 11 then -1 else T 0 j) else if a = 1 then (if j = 96 then v &&& 8 else if j = 84 then v else if j = 192 then 32 else if 32 ≤ j ∧ j < 256 then 0 else T 1 j) else if a = 7 ∧ j < 32 then 0 else T a j := by
  unfold rsM
  rw [sst_get]
  show (if a = 1 ∧ j = 96 then v &&& 8 else if a = 7 ∧ 0 ≤ j ∧ j < 0 + 32 then 0 else rsC T v a j) = _
  rw [rsC_get]
  by_cases ha : a = 0
  · rw [if_pos (c := a = 0) ha, if_pos (c := a = 0) ha, if_neg (c := a = 1 ∧ j = 96) (fun z => by have := z.1; omega), if_neg (c := a = 7 ∧ 0 ≤ j ∧ j < 0 + 32) (fun z => by have := z.1; omega)]
  · rw [if_neg (c := a = 0) ha, if_neg (c := a = 0) ha]
    by_cases h1 : a = 1
    · rw [if_pos (c := a = 1) h1, if_pos (c := a = 1) h1]
      by_cases c1 : j = 96
      · rw [if_pos (c := a = 1 ∧ j = 96) ⟨h1, c1⟩, if_pos c1]
      · rw [if_neg (c := a = 1 ∧ j = 96) (fun z => c1 z.2), if_neg (c := j = 96) c1, if_neg (c := a = 7 ∧ 0 ≤ j ∧ j < 0 + 32) (fun z => by have := z.1; omega)]
    · rw [if_neg (c := a = 1) h1, if_neg (c := a = 1) h1, if_neg (c := a = 1 ∧ j = 96) (fun z => h1 z.1)]
      by_cases c2 : a = 7 ∧ j < 32
      · rw [if_pos (c := a = 7 ∧ 0 ≤ j ∧ j < 0 + 32) ⟨c2.1, by omega, by omega⟩, if_pos c2]
      · rw [if_neg (c := a = 7 ∧ 0 ≤ j ∧ j < 0 + 32) (fun z => c2 ⟨z.1, by omega⟩), if_neg c2]
theorem R_rst {b : Bool} {σ τ F T : Sg} (h : R b σ τ) (v : Int32) (hF0 : ∀ j, j ≠ 30 → F 0 j = σ 0 j) (hT0 : ∀ j, T 0 j = τ 0 j) (hd : ∀ j, j < 32 ∨ 256 ≤ j → F 1 j = T 1 j) (hz : ∀ j, 32 ≤ j → j < 256 → F 1 j = 0) (hFr : ∀ a, 2 ≤ a → F a = σ a) (hTr : ∀ a, 2 ≤ a → T a = τ a) : R b (rsX F v) (rsM T v) := by
  have X0 : ∀ j, rsX F v 0 j = (if j = 6 ∨ j = 7 ∨ j = 30 ∨ z14 j = true then 0 else if j = 0 then (if (F 0 29) = 1 then 1536 else 0) else if j = 11 then -1 else F 0 j) := fun j => (rsX_get F v 0 j).trans (if_pos rfl)
  have X1 : ∀ j, rsX F v 1 j = (if j = 84 then v else if j = 96 ∧ ¬ (v &&& 8) = 0 then 8 else F 1 j) := fun j => (rsX_get F v 1 j).trans ((if_neg (by decide)).trans (if_pos rfl))
  have Xr : ∀ a, 2 ≤ a → a ≠ 5 → rsX F v a = F a := by
    intro a h1 h2; funext j; rw [rsX_get, if_neg (by omega), if_neg (by omega), if_neg (by omega)]
  have X5 : ∀ j, j < 32 → rsX F v 5 j = -1 := fun j hj => (rsX_get F v 5 j).trans ((if_neg (by decide)).trans ((if_neg (by decide)).trans (if_pos ⟨rfl, hj⟩)))
  have M0 : ∀ j, rsM T v 0 j = (if zM j = true then 0 else if j = 0 then (if (T 0 29) = 1 then 1536 else 0) else if j = 11 then -1 else T 0 j) := fun j => (rsM_get T v 0 j).trans (if_pos rfl)
  have M1 : ∀ j, rsM T v 1 j = (if j = 96 then v &&& 8 else if j = 84 then v else if j = 192 then 32 else if 32 ≤ j ∧ j < 256 then 0 else T 1 j) := fun j => (rsM_get T v 1 j).trans ((if_neg (by decide)).trans (if_pos rfl))
  have Mr : ∀ a, 2 ≤ a → a ≠ 7 → rsM T v a = T a := by
    intro a h1 h2; funext j; rw [rsM_get, if_neg (by omega), if_neg (by omega), if_neg (by omega)]
  have M7 : ∀ j, j < 32 → rsM T v 7 j = 0 := fun j hj => (rsM_get T v 7 j).trans ((if_neg (by decide)).trans ((if_neg (by decide)).trans (if_pos ⟨rfl, hj⟩)))
  generalize rsX F v = S at *
  generalize rsM T v = U at *
  have e29 : F 0 29 = T 0 29 := by rw [hF0 29 (by decide), hT0]; exact h.sc 29 rfl
  have hz14 := z14_iff
  have hzM := zM_iff
  have zz : ∀ j, S 0 j = 0 ∨ ¬ (j = 6 ∨ j = 7 ∨ j = 30 ∨ z14 j = true) := by
    intro j
    by_cases q : (j = 6 ∨ j = 7 ∨ j = 30 ∨ z14 j = true)
    · left; rw [X0, if_pos q]
    · exact Or.inr q
  have sz : ∀ j, (j = 6 ∨ j = 7 ∨ j = 30 ∨ z14 j = true) → S 0 j = 0 := fun j q => by rw [X0, if_pos q]
  have s84 : S 1 84 = v := by rw [X1]; rfl
  have s96 : S 1 96 = v &&& 8 := by
    rw [X1, if_neg (by decide)]
    rcases and_pow v (f := 8) 3 (by decide) (by decide +kernel) with q | q
    · rw [if_neg (fun z => z.2 q), q]; exact hz 96 (by decide) (by decide)
    · rw [if_pos ⟨rfl, by rw [q]; decide⟩, q]
  have sl : ∀ j, 32 ≤ j → j < 256 → j ≠ 84 → j ≠ 96 → S 1 j = 0 := by
    intro j h1 h2 h3 h4
    rw [X1, if_neg h3, if_neg (fun z => h4 z.1)]; exact hz j h1 h2
  have ul : ∀ j, 32 ≤ j → j < 256 → j ≠ 84 → j ≠ 96 → j ≠ 192 → U 1 j = 0 := by
    intro j h1 h2 h3 h4 h5
    rw [M1, if_neg h4, if_neg h3, if_neg h5, if_pos ⟨h1, h2⟩]
  refine R_mk ?_ ?_ ?_ ?_ ?_ ?_ ?_ ?_ ?_ ?_ ?_ ?_ ?_ ?_ ?_ ?_ ?_ ?_ ?_
  · intro j hj
    have hj2 : j = 0 ∨ (2 ≤ j ∧ j < 30) := by unfold scal at hj; simp at hj; omega
    rw [X0, M0]
    by_cases q : (j = 6 ∨ j = 7 ∨ j = 30 ∨ z14 j = true)
    · rw [if_pos q, if_pos ((hzM j).mpr (by
        rcases q with q | q | q | q
        · omega
        · omega
        · omega
        · have := (hz14 j).mp q; omega))]
    · rw [if_neg q, if_neg (c := zM j = true) (fun z => q (by
        have := (hzM j).mp z
        have k := (hz14 j).mpr
        by_cases q6 : j = 6
        · exact Or.inl q6
        by_cases q7 : j = 7
        · exact Or.inr (Or.inl q7)
        exact Or.inr (Or.inr (Or.inr (k (by omega))))))]
      rw [e29, hT0 j, hF0 j (by omega), h.sc j hj]
  · intro hb
    rw [X0, M0, if_neg (by rw [hz14]; omega), if_neg (c := zM 1 = true) (by rw [hzM]; omega), if_neg (by decide), if_neg (by decide), if_neg (by decide), if_neg (by decide), hF0 1 (by decide), hT0 1]
    exact h.mo hb
  · intro j hj
    have n192 : j ≠ 192 := by intro q; subst q; cases hj
    by_cases q1 : j = 84
    · rw [q1, s84, M1]; rfl
    by_cases q2 : j = 96
    · rw [q2, s96, M1]; rfl
    by_cases q3 : 32 ≤ j ∧ j < 256
    · rw [sl j q3.1 q3.2 q1 q2, ul j q3.1 q3.2 q1 q2 n192]
    · rw [X1, if_neg q1, if_neg (fun z => q2 z.1), M1, if_neg q2, if_neg q1, if_neg n192, if_neg q3]
      exact hd j (by omega)
  · rw [Xr 2 (by decide) (by decide), Mr 2 (by decide) (by decide), hFr 2 (by decide), hTr 2 (by decide)]; exact h.fl
  · rw [Xr 3 (by decide) (by decide), Mr 3 (by decide) (by decide), hFr 3 (by decide), hTr 3 (by decide)]; exact h.er
  · rw [Xr 4 (by decide) (by decide), Mr 4 (by decide) (by decide), hFr 4 (by decide), hTr 4 (by decide)]; exact h.kp
  · have e11 : S 0 11 = -1 := by rw [X0, if_neg (by rw [hz14]; omega)]; rfl
    have eU : U 1 192 = 32 := by rw [M1]; rfl
    rw [eU, st_v, sz 18 (by rw [hz14]; omega), sz 32 (by rw [hz14]; omega), sz 31 (by rw [hz14]; omega), sz 33 (by rw [hz14]; omega), e11]
    decide
  · rw [ul 63 (by decide) (by decide) (by decide) (by decide) (by decide), sl 63 (by decide) (by decide) (by decide) (by decide), sz 21 (by rw [hz14]; omega), sz 22 (by rw [hz14]; omega)]
    decide
  · rw [sl 63 (by decide) (by decide) (by decide) (by decide)]; decide
  · intro j hj
    left
    rw [X5 j hj, M7 j hj]
    exact ⟨by decide, rfl⟩
  · have e19 : S 0 19 = σ 0 19 := by rw [X0, if_neg (by rw [hz14]; omega), if_neg (by decide), if_neg (by decide)]; exact hF0 19 (by decide)
    have e34 : S 0 34 = σ 0 34 := by rw [X0, if_neg (by rw [hz14]; omega), if_neg (by decide), if_neg (by decide)]; exact hF0 34 (by decide)
    rw [e19, e34, Xr 6 (by decide) (by decide), Mr 6 (by decide) (by decide), hFr 6 (by decide), hTr 6 (by decide)]; exact h.ri
  · intro j hj
    have : S 0 j = 0 := by
      refine sz j ?_
      rw [hz14]
      unfold win at hj; simp at hj
      omega
    rw [this]; decide
  · rw [sl 53 (by decide) (by decide) (by decide) (by decide)]; exact rg_w rl_0 (by decide) (by decide)
  · rw [sl 85 (by decide) (by decide) (by decide) (by decide)]; exact rg_w rl_0 (by decide) (by decide)
  · rw [sl 87 (by decide) (by decide) (by decide) (by decide)]; decide
  · intro q
    rw [s84] at q
    rw [s96, Int32.and_assoc]; exact q
  · intro j h1 h2 h3
    refine sl j h1 h2 ?_ ?_
    · intro q; subst q; cases h3
    · intro q; subst q; cases h3
  · exact sz 30 (by omega)
  · exact Or.inl (sz 6 (by omega))
theorem R_reset {b : Bool} {σ τ : Sg} (h : R b σ τ) (u : Int32) {x1 m : Int32} (h1 : ¬ x1 = 0) (hm : ((1 : Int32) <<< (x1 &&& 31)) = m) (hm1 : ¬ m = 1) : R b (x2_reset (sst σ 0 30 u) x1) (m_restart τ m) := by
  rw [reset_n _ h1, restart_eq, hm, if_neg hm1]
  have e84 : (sst σ 0 30 u) 1 84 = τ 1 84 := (sst_ne_k _ _ (by decide)).trans (h.da 84 rfl)
  rw [e84]
  refine R_rst h _ ?_ (fun _ => rfl) ?_ ?_ ?_ (fun _ _ => rfl)
  · intro j hj
    show (if (0 : Nat) = 1 ∧ 32 ≤ j ∧ j < 32 + 224 then (0 : Int32) else (sst σ 0 30 u) 0 j) = _
    rw [if_neg (by omega), sst_ne_j _ _ hj]
  · intro j hj
    show (if (1 : Nat) = 1 ∧ 32 ≤ j ∧ j < 32 + 224 then (0 : Int32) else (sst σ 0 30 u) 1 j) = _
    rw [if_neg (by omega), sst_ne_k _ _ (by decide)]
    refine h.da j ?_
    unfold okj; simp; omega
  · intro j h2 h3
    show (if (1 : Nat) = 1 ∧ 32 ≤ j ∧ j < 32 + 224 then (0 : Int32) else (sst σ 0 30 u) 1 j) = _
    rw [if_pos ⟨rfl, by omega, by omega⟩]
  · intro a ha
    funext j
    show (if a = 1 ∧ 32 ≤ j ∧ j < 32 + 224 then (0 : Int32) else (sst σ 0 30 u) a j) = _
    rw [if_neg (by omega), sst_ne_k _ _ (by omega)]
