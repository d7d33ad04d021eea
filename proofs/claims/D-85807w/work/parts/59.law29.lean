/-! PLAIN LAW 29: the reset (printed by gen_law29.py) -/
set_option maxRecDepth 100000
theorem iter_add {α : Type} (f : Nat → α → α) : ∀ (a b i : Nat) (s : α), iterN (a + b) i f s = iterN b (i + a) f (iterN a i f s) := by
  intro a
  induction a with
  | zero => intro b i s; rw [Nat.zero_add, Nat.add_zero]; rfl
  | succ a ih =>
    intro b i s
    rw [show a + 1 + b = (a + b) + 1 by omega]
    show iterN (a + b) (i + 1) f (f i s) = iterN b (i + (a + 1)) f (iterN a (i + 1) f (f i s))
    rw [ih b (i + 1) (f i s), show i + 1 + a = i + (a + 1) by omega]
theorem iter_id {α : Type} (f : Nat → α → α) : ∀ (n i : Nat) (s : α), (∀ k t, i ≤ k → k < i + n → f k t = t) → iterN n i f s = s := by
  intro n
  induction n with
  | zero => intro i s _; rfl
  | succ n ih =>
    intro i s h
    show iterN n (i + 1) f (f i s) = s
    rw [h i s (by omega) (by omega)]
    exact ih (i + 1) s (fun k t h1 h2 => h k t (by omega) (by omega))
def clrF (i : Nat) (a : Sg) : Sg :=
  if (nI i) = 35 then lt (x4_clear a) fun s => s else
  if (nI i) = 53 then lt (x5_clear a) fun s => s else
  if (((nI i) = 63) ∨ ((nI i) = 64)) ∨ ((nI i) = 65) then lt (x7_clear a) fun s => s else
  if ((nI i) = 84) ∨ ((nI i) = 85) then lt (x9_clear a) fun s => s else
  if (nI i) = 87 then lt (x10_clear a) fun s => s else
  if (nI i) = 96 then lt (x8_clear a) fun s => s else
  if (((nI i) = 192) ∨ ((nI i) = 193)) ∨ ((nI i) = 198) then lt (x6_clear a) fun s => s else
  if ((((((((((((((((nI i) = 36) ∨ ((nI i) = 37)) ∨ ((nI i) = 62)) ∨ ((nI i) = 68)) ∨ ((nI i) = 69)) ∨ ((nI i) = 70)) ∨ ((nI i) = 71)) ∨ ((nI i) = 74)) ∨ ((nI i) = 75)) ∨ ((nI i) = 93)) ∨ ((nI i) = 94)) ∨ ((nI i) = 95)) ∨ ((nI i) = 110)) ∨ ((nI i) = 194)) ∨ ((nI i) = 196)) ∨ ((nI i) = 197) then lt (x11_clear a) fun s => s else a
theorem ni_eq {k c : Nat} {x : Int32} (hx : x = nI c) (hk : k < 2 ^ 31) (hc : c < 2 ^ 31) (h : nI k = x) : k = c := by
  rw [hx] at h
  have h2 := congrArg Int32.toInt h
  rw [nI_toInt hk, nI_toInt hc] at h2
  omega
theorem clr_id {k : Nat} (t : Sg) (hk : k < 256) (h53 : k ≠ 53) (h63 : k ≠ 63) (h64 : k ≠ 64) (h65 : k ≠ 65) (h84 : k ≠ 84) (h85 : k ≠ 85) (h87 : k ≠ 87) (h96 : k ≠ 96) (h192 : k ≠ 192) (h193 : k ≠ 193) (h198 : k ≠ 198) : clrF k t = t := by
  have g : ∀ (c : Nat) (x : Int32), x = nI c → c < 2 ^ 31 → k ≠ c → ¬ nI k = x := fun c x hx hc hn z => hn (ni_eq hx (by omega) hc z)
  unfold clrF
  by_cases q : nI k = 35
  · rw [if_pos q]; rfl
  rw [if_neg q, if_neg (g 53 53 rfl (by decide) h53), if_neg (by
    rintro ((z | z) | z)
    · exact g 63 63 rfl (by decide) h63 z
    · exact g 64 64 rfl (by decide) h64 z
    · exact g 65 65 rfl (by decide) h65 z), if_neg (by
    rintro (z | z)
    · exact g 84 84 rfl (by decide) h84 z
    · exact g 85 85 rfl (by decide) h85 z), if_neg (g 87 87 rfl (by decide) h87), if_neg (g 96 96 rfl (by decide) h96), if_neg (by
    rintro ((z | z) | z)
    · exact g 192 192 rfl (by decide) h192 z
    · exact g 193 193 rfl (by decide) h193 z
    · exact g 198 198 rfl (by decide) h198 z)]
  split <;> rfl
theorem clr_53 (t : Sg) : clrF 53 t = x5_clear t := by
  unfold clrF
  rw [if_neg (by decide), if_pos (by decide)]
  exact lt_g _ _
theorem clr_63 (t : Sg) : clrF 63 t = x7_clear t := by
  unfold clrF
  rw [if_neg (by decide), if_neg (by decide), if_pos (by decide)]
  exact lt_g _ _
theorem clr_64 (t : Sg) : clrF 64 t = x7_clear t := by
  unfold clrF
  rw [if_neg (by decide), if_neg (by decide), if_pos (by decide)]
  exact lt_g _ _
theorem clr_65 (t : Sg) : clrF 65 t = x7_clear t := by
  unfold clrF
  rw [if_neg (by decide), if_neg (by decide), if_pos (by decide)]
  exact lt_g _ _
theorem clr_84 (t : Sg) : clrF 84 t = x9_clear t := by
  unfold clrF
  rw [if_neg (by decide), if_neg (by decide), if_neg (by decide), if_pos (by decide)]
  exact lt_g _ _
theorem clr_85 (t : Sg) : clrF 85 t = x9_clear t := by
  unfold clrF
  rw [if_neg (by decide), if_neg (by decide), if_neg (by decide), if_pos (by decide)]
  exact lt_g _ _
theorem clr_87 (t : Sg) : clrF 87 t = x10_clear t := by
  unfold clrF
  rw [if_neg (by decide), if_neg (by decide), if_neg (by decide), if_neg (by decide), if_pos (by decide)]
  exact lt_g _ _
theorem clr_96 (t : Sg) : clrF 96 t = x8_clear t := by
  unfold clrF
  rw [if_neg (by decide), if_neg (by decide), if_neg (by decide), if_neg (by decide), if_neg (by decide), if_pos (by decide)]
  exact lt_g _ _
theorem clr_192 (t : Sg) : clrF 192 t = x6_clear t := by
  unfold clrF
  rw [if_neg (by decide), if_neg (by decide), if_neg (by decide), if_neg (by decide), if_neg (by decide), if_neg (by decide), if_pos (by decide)]
  exact lt_g _ _
theorem clr_193 (t : Sg) : clrF 193 t = x6_clear t := by
  unfold clrF
  rw [if_neg (by decide), if_neg (by decide), if_neg (by decide), if_neg (by decide), if_neg (by decide), if_neg (by decide), if_pos (by decide)]
  exact lt_g _ _
theorem clr_198 (t : Sg) : clrF 198 t = x6_clear t := by
  unfold clrF
  rw [if_neg (by decide), if_neg (by decide), if_neg (by decide), if_neg (by decide), if_neg (by decide), if_neg (by decide), if_pos (by decide)]
  exact lt_g _ _
theorem clr_skip {n m i j : Nat} (s : Sg) (hj : j = i + n) (hN : i + n ≤ 256) (h : ∀ k, i ≤ k → k < i + n → k ≠ 53 ∧ k ≠ 63 ∧ k ≠ 64 ∧ k ≠ 65 ∧ k ≠ 84 ∧ k ≠ 85 ∧ k ≠ 87 ∧ k ≠ 96 ∧ k ≠ 192 ∧ k ≠ 193 ∧ k ≠ 198) : iterN (n + m) i clrF s = iterN m j clrF s := by
  rw [iter_add, hj, iter_id clrF n i s (fun k t h1 h2 => by
    obtain ⟨a1, a2, a3, a4, a5, a6, a7, a8, a9, a10, a11⟩ := h k h1 h2
    exact clr_id t (by omega) a1 a2 a3 a4 a5 a6 a7 a8 a9 a10 a11)]
theorem clr_one {m i : Nat} {f : Sg → Sg} (s : Sg) (h : clrF i s = f s) : iterN (m + 1) i clrF s = iterN m (i + 1) clrF (f s) := by
  show iterN m (i + 1) clrF (clrF i s) = _
  rw [h]
def clrA (s : Sg) : Sg := x6_clear (x6_clear (x6_clear (x8_clear (x10_clear (x9_clear (x9_clear (x7_clear (x7_clear (x7_clear (x5_clear s))))))))))
theorem clr_all (s : Sg) : iterN 256 0 clrF s = clrA s := by
  unfold clrA
  rw [clr_skip (n := 53) (m := 203) (i := 0) (j := 53) _ rfl (by decide) (fun k h1 h2 => by omega)]
  rw [clr_one (m := 202) (i := 53) _ (clr_53 _)]
  rw [clr_skip (n := 9) (m := 193) (i := 54) (j := 63) _ rfl (by decide) (fun k h1 h2 => by omega)]
  rw [clr_one (m := 192) (i := 63) _ (clr_63 _)]
  rw [clr_one (m := 191) (i := 64) _ (clr_64 _)]
  rw [clr_one (m := 190) (i := 65) _ (clr_65 _)]
  rw [clr_skip (n := 18) (m := 172) (i := 66) (j := 84) _ rfl (by decide) (fun k h1 h2 => by omega)]
  rw [clr_one (m := 171) (i := 84) _ (clr_84 _)]
  rw [clr_one (m := 170) (i := 85) _ (clr_85 _)]
  rw [clr_skip (n := 1) (m := 169) (i := 86) (j := 87) _ rfl (by decide) (fun k h1 h2 => by omega)]
  rw [clr_one (m := 168) (i := 87) _ (clr_87 _)]
  rw [clr_skip (n := 8) (m := 160) (i := 88) (j := 96) _ rfl (by decide) (fun k h1 h2 => by omega)]
  rw [clr_one (m := 159) (i := 96) _ (clr_96 _)]
  rw [clr_skip (n := 95) (m := 64) (i := 97) (j := 192) _ rfl (by decide) (fun k h1 h2 => by omega)]
  rw [clr_one (m := 63) (i := 192) _ (clr_192 _)]
  rw [clr_one (m := 62) (i := 193) _ (clr_193 _)]
  rw [clr_skip (n := 4) (m := 58) (i := 194) (j := 198) _ rfl (by decide) (fun k h1 h2 => by omega)]
  rw [clr_one (m := 57) (i := 198) _ (clr_198 _)]
  rw [clr_skip (n := 57) (m := 0) (i := 199) (j := 256) _ rfl (by decide) (fun k h1 h2 => by omega)]
  rfl
theorem x5c_get (s : Sg) (a j : Nat) : x5_clear s a j = if a = 0 ∧ j = 10 then 0 else s a j := by
  show sst s 0 10 0 a j = _
  rw [sst_get]
theorem x9c_get (s : Sg) (a j : Nat) : x9_clear s a j = if a = 0 ∧ j = 25 then 0 else s a j := by
  show sst s 0 25 0 a j = _
  rw [sst_get]
theorem x7c_get (s : Sg) (a j : Nat) : x7_clear s a j = if a = 0 ∧ (j = 21 ∨ j = 22) then 0 else s a j := by
  show sst (sst s 0 21 0) 0 22 0 a j = _
  rw [sst_get, sst_get]
  repeat' split
  all_goals first | rfl | (exfalso; omega)
theorem x8c_get (s : Sg) (a j : Nat) : x8_clear s a j = if a = 0 ∧ (j = 23 ∨ j = 24) then 0 else s a j := by
  show sst (sst s 0 23 0) 0 24 0 a j = _
  rw [sst_get, sst_get]
  repeat' split
  all_goals first | rfl | (exfalso; omega)
theorem x10c_get (s : Sg) (a j : Nat) : x10_clear s a j = if a = 0 ∧ (j = 26 ∨ j = 27) then 0 else if a = 5 ∧ j < 32 then -1 else s a j := by
  show x10_empty (sst (sst s 0 26 0) 0 27 0) a j = _
  rw [empty_eq]
  show (if a = 5 ∧ 0 ≤ j ∧ j < 0 + 32 then (-1 : Int32) else sst (sst s 0 26 0) 0 27 0 a j) = _
  rw [sst_get, sst_get]
  repeat' split
  all_goals first | rfl | (exfalso; omega)
theorem x6c_get (s : Sg) (a j : Nat) : x6_clear s a j = if a = 0 ∧ (j = 13 ∨ j = 15 ∨ j = 18 ∨ j = 31 ∨ j = 32 ∨ j = 33) then 0 else if a = 0 ∧ j = 11 then -1 else s a j := by
  show sst (sst (sst (sst (sst (sst (sst s 0 11 (-1)) 0 13 0) 0 15 0) 0 18 0) 0 31 0) 0 32 0) 0 33 0 a j = _
  rw [sst_get, sst_get, sst_get, sst_get, sst_get, sst_get, sst_get]
  repeat' split
  all_goals first | rfl | (exfalso; omega)
def z14 (j : Nat) : Bool := j == 10 || (j == 13 || (j == 15 || (j == 18 || ((decide (21 ≤ j) && decide (j ≤ 27)) || (decide (31 ≤ j) && decide (j ≤ 33))))))
theorem z14_iff (j : Nat) : z14 j = true ↔ (j = 10 ∨ j = 13 ∨ j = 15 ∨ j = 18 ∨ (21 ≤ j ∧ j ≤ 27) ∨ (31 ≤ j ∧ j ≤ 33)) := by
  unfold z14; simp
theorem c7_get (s : Sg) (a j : Nat) : x7_clear (x7_clear (x7_clear s)) a j = if a = 0 ∧ (j = 21 ∨ j = 22) then 0 else s a j := by
  rw [x7c_get, x7c_get, x7c_get]
  by_cases h : a = 0 ∧ (j = 21 ∨ j = 22)
  · rw [if_pos h, if_pos h]
  · rw [if_neg h, if_neg h, if_neg h]
theorem c9_get (s : Sg) (a j : Nat) : x9_clear (x9_clear s) a j = if a = 0 ∧ j = 25 then 0 else s a j := by
  rw [x9c_get, x9c_get]
  by_cases h : a = 0 ∧ j = 25
  · rw [if_pos h, if_pos h]
  · rw [if_neg h, if_neg h]
theorem c6_get (s : Sg) (a j : Nat) : x6_clear (x6_clear (x6_clear s)) a j = if a = 0 ∧ (j = 13 ∨ j = 15 ∨ j = 18 ∨ j = 31 ∨ j = 32 ∨ j = 33) then 0 else if a = 0 ∧ j = 11 then -1 else s a j := by
  rw [x6c_get, x6c_get, x6c_get]
  by_cases h : a = 0 ∧ (j = 13 ∨ j = 15 ∨ j = 18 ∨ j = 31 ∨ j = 32 ∨ j = 33)
  · rw [if_pos h, if_pos h]
  · rw [if_neg h, if_neg h, if_neg h]
    by_cases h2 : a = 0 ∧ j = 11
    · rw [if_pos h2, if_pos h2]
    · rw [if_neg h2, if_neg h2, if_neg h2]
theorem clrA_get (s : Sg) (a j : Nat) : clrA s a j = if a = 0 ∧ z14 j = true then 0 else if a = 0 ∧ j = 11 then -1 else if a = 5 ∧ j < 32 then -1 else s a j := by
  unfold clrA
  rw [c6_get, x8c_get, x10c_get, c9_get, c7_get, x5c_get]
  have hz := z14_iff j
  have ok : ∀ (r : Int32), a = 0 → (j = 10 ∨ j = 13 ∨ j = 15 ∨ j = 18 ∨ (21 ≤ j ∧ j ≤ 27) ∨ (31 ≤ j ∧ j ≤ 33)) → (0 : Int32) = if a = 0 ∧ z14 j = true then 0 else r := fun r ha hj => (if_pos ⟨ha, hz.mpr hj⟩).symm
  by_cases c1 : a = 0 ∧ (j = 13 ∨ j = 15 ∨ j = 18 ∨ j = 31 ∨ j = 32 ∨ j = 33)
  · rw [if_pos c1]; exact ok _ c1.1 (by omega)
  rw [if_neg c1]
  by_cases c2 : a = 0 ∧ j = 11
  · rw [if_pos c2, if_pos c2, if_neg]
    intro z
    have := hz.mp z.2
    omega
  rw [if_neg c2, if_neg c2]
  by_cases c3 : a = 0 ∧ (j = 23 ∨ j = 24)
  · rw [if_pos c3]; exact ok _ c3.1 (by omega)
  rw [if_neg c3]
  by_cases c4 : a = 0 ∧ (j = 26 ∨ j = 27)
  · rw [if_pos c4]; exact ok _ c4.1 (by omega)
  rw [if_neg c4]
  by_cases c5 : a = 5 ∧ j < 32
  · rw [if_pos c5, if_pos c5, if_neg (fun z => by have := c5.1; have := z.1; omega)]
  rw [if_neg c5, if_neg c5]
  by_cases c6 : a = 0 ∧ j = 25
  · rw [if_pos c6]; exact ok _ c6.1 (by omega)
  rw [if_neg c6]
  by_cases c7 : a = 0 ∧ (j = 21 ∨ j = 22)
  · rw [if_pos c7]; exact ok _ c7.1 (by omega)
  rw [if_neg c7]
  by_cases c8 : a = 0 ∧ j = 10
  · rw [if_pos c8]; exact ok _ c8.1 (by omega)
  rw [if_neg c8, if_neg]
  intro z
  have := hz.mp z.2
  omega
def rsX (F : Sg) (v : Int32) : Sg := sst (sst (sst (sst (if (v &&& 8) = 0 then clrA (sst F 1 84 v) else sst (clrA (sst F 1 84 v)) 1 96 8) 0 0 (if (F 0 29) = 1 then 1536 else 0)) 0 6 0) 0 7 0) 0 30 0
theorem rsX_get (F : Sg) (v : Int32) (a j : Nat) : rsX F v a j = if a = 0 then (if j = 6 ∨ j = 7 ∨ j = 30 ∨ z14 j = true then 0 else if j = 0 then (if (F 0 29) = 1 then 1536 else 0) else if j = 11 then -1 else F 0 j) else if a = 1 then (if j = 84 then v else if j = 96 ∧ ¬ (v &&& 8) = 0 then 8 else F 1 j) else if a = 5 ∧ j < 32 then -1 else F a j := by
  unfold rsX
  have hz := z14_iff j
  generalize hp : (if (F 0 29) = 1 then (1536 : Int32) else 0) = p
  have hB : ∀ a j, (if (v &&& 8) = 0 then clrA (sst F 1 84 v) else sst (clrA (sst F 1 84 v)) 1 96 8) a j = if a = 1 ∧ j = 96 ∧ ¬ (v &&& 8) = 0 then 8 else if a = 0 ∧ z14 j = true then 0 else if a = 0 ∧ j = 11 then -1 else if a = 5 ∧ j < 32 then -1 else if a = 1 ∧ j = 84 then v else F a j := by
    intro a j
    by_cases hv : (v &&& 8) = 0
    · rw [if_pos hv, clrA_get, sst_get, if_neg (c := a = 1 ∧ j = 96 ∧ ¬ (v &&& 8) = 0) (fun z => z.2.2 hv)]
    · rw [if_neg hv, sst_get, clrA_get, sst_get]
      by_cases h : a = 1 ∧ j = 96
      · rw [if_pos h, if_pos (c := a = 1 ∧ j = 96 ∧ ¬ (v &&& 8) = 0) ⟨h.1, h.2, hv⟩]
      · rw [if_neg h, if_neg (c := a = 1 ∧ j = 96 ∧ ¬ (v &&& 8) = 0) (fun z => h ⟨z.1, z.2.1⟩)]
  rw [sst_get, sst_get, sst_get, sst_get, hB]
  by_cases h0 : a = 0
  · rw [if_pos (c := a = 0) h0]
    by_cases c1 : j = 30
    · rw [if_pos (c := a = 0 ∧ j = 30) ⟨h0, c1⟩, if_pos (Or.inr (Or.inr (Or.inl c1)))]
    rw [if_neg (c := a = 0 ∧ j = 30) (fun z => c1 z.2)]
    by_cases c2 : j = 7
    · rw [if_pos (c := a = 0 ∧ j = 7) ⟨h0, c2⟩, if_pos (Or.inr (Or.inl c2))]
    rw [if_neg (c := a = 0 ∧ j = 7) (fun z => c2 z.2)]
    by_cases c3 : j = 6
    · rw [if_pos (c := a = 0 ∧ j = 6) ⟨h0, c3⟩, if_pos (Or.inl c3)]
    rw [if_neg (c := a = 0 ∧ j = 6) (fun z => c3 z.2)]
    by_cases c4 : j = 0
    · rw [if_pos (c := a = 0 ∧ j = 0) ⟨h0, c4⟩, if_neg (c := j = 6 ∨ j = 7 ∨ j = 30 ∨ z14 j = true) (by rw [hz]; omega), if_pos c4]
    rw [if_neg (c := a = 0 ∧ j = 0) (fun z => c4 z.2), if_neg (c := a = 1 ∧ j = 96 ∧ ¬ (v &&& 8) = 0) (fun z => by have := z.1; omega)]
    by_cases c5 : z14 j = true
    · rw [if_pos (c := a = 0 ∧ z14 j = true) ⟨h0, c5⟩, if_pos (Or.inr (Or.inr (Or.inr c5)))]
    rw [if_neg (c := a = 0 ∧ z14 j = true) (fun z => c5 z.2), if_neg (c := j = 6 ∨ j = 7 ∨ j = 30 ∨ z14 j = true) (by rintro (z | z | z | z); exact c3 z; exact c2 z; exact c1 z; exact c5 z), if_neg c4]
    by_cases c6 : j = 11
    · rw [if_pos (c := a = 0 ∧ j = 11) ⟨h0, c6⟩, if_pos c6]
    rw [if_neg (c := a = 0 ∧ j = 11) (fun z => c6 z.2), if_neg c6, if_neg (c := a = 5 ∧ j < 32) (fun z => by have := z.1; omega), if_neg (c := a = 1 ∧ j = 84) (fun z => by have := z.1; omega), h0]
  rw [if_neg (c := a = 0) h0, if_neg (c := a = 0 ∧ j = 30) (fun z => h0 z.1), if_neg (c := a = 0 ∧ j = 7) (fun z => h0 z.1), if_neg (c := a = 0 ∧ j = 6) (fun z => h0 z.1), if_neg (c := a = 0 ∧ j = 0) (fun z => h0 z.1), if_neg (c := a = 0 ∧ z14 j = true) (fun z => h0 z.1), if_neg (c := a = 0 ∧ j = 11) (fun z => h0 z.1)]
  by_cases h1 : a = 1
  · rw [if_pos (c := a = 1) h1, if_neg (c := a = 5 ∧ j < 32) (fun z => by have := z.1; omega)]
    by_cases c1 : j = 84
    · rw [if_neg (c := a = 1 ∧ j = 96 ∧ ¬ (v &&& 8) = 0) (fun z => by have := z.2.1; omega), if_pos (c := a = 1 ∧ j = 84) ⟨h1, c1⟩, if_pos c1]
    rw [if_neg (c := a = 1 ∧ j = 84) (fun z => c1 z.2), if_neg (c := j = 84) c1]
    by_cases c2 : j = 96 ∧ ¬ (v &&& 8) = 0
    · rw [if_pos (c := a = 1 ∧ j = 96 ∧ ¬ (v &&& 8) = 0) ⟨h1, c2⟩, if_pos c2]
    · rw [if_neg (c := a = 1 ∧ j = 96 ∧ ¬ (v &&& 8) = 0) (fun z => c2 z.2), if_neg c2, h1]
  · rw [if_neg (c := a = 1) h1, if_neg (c := a = 1 ∧ j = 96 ∧ ¬ (v &&& 8) = 0) (fun z => h1 z.1), if_neg (c := a = 1 ∧ j = 84) (fun z => h1 z.1)]
theorem reset_n (σ : Sg) {x1 : Int32} (h : ¬ x1 = 0) : x2_reset σ x1 = rsX (fun a j => if a = 1 ∧ 32 ≤ j ∧ j < 32 + 224 then 0 else σ a j) ((σ 1 84) ||| ((1 : Int32) <<< (x1 &&& 31))) := by
  unfold x2_reset
  rw [if_neg h]
  refine lt_l ?_
  generalize ((σ 1 84) ||| ((1 : Int32) <<< (x1 &&& 31))) = v
  rw [iter_fill 1 0 224 32 σ (by decide)]
  refine lt_l ?_
  have e29 : (fun a j => if a = 1 ∧ 32 ≤ j ∧ j < 32 + 224 then (0 : Int32) else σ a j) 0 29 = σ 0 29 := rfl
  generalize hF : (fun a j => if a = 1 ∧ 32 ≤ j ∧ j < 32 + 224 then (0 : Int32) else σ a j) = F at *
  refine lt_l ?_
  have ec := clr_all (sst F 1 84 v)
  have ec2 : iterN 256 0 (fun i a => clrF i a) (sst F 1 84 v) = clrA (sst F 1 84 v) := ec
  unfold clrF at ec2
  refine (congrArg (fun c => lt c fun z81_1 => lt ((if (v &&& 8) = 0 then z81_1 else lt (sst z81_1 1 96 8) fun s125_1 => s125_1) : Sg) fun z114_1 => lt ((if (z114_1 0 29) = 1 then 1536 else 0) : Int32) fun z135_1 => lt (sst z114_1 0 0 z135_1) fun s145_1 => lt (sst s145_1 0 6 0) fun s150_1 => lt (sst s150_1 0 7 0) fun s155_1 => lt (sst s155_1 0 30 0) fun s160_1 => s160_1) ec2).trans ?_
  have g29 : (if (v &&& 8) = 0 then clrA (sst F 1 84 v) else sst (clrA (sst F 1 84 v)) 1 96 8) 0 29 = F 0 29 := by
    by_cases q : (v &&& 8) = 0
    · rw [if_pos q, clrA_get]; rfl
    · rw [if_neg q, sst_get, clrA_get]; rfl
  show sst (sst (sst (sst (if (v &&& 8) = 0 then clrA (sst F 1 84 v) else sst (clrA (sst F 1 84 v)) 1 96 8) 0 0 (if ((if (v &&& 8) = 0 then clrA (sst F 1 84 v) else sst (clrA (sst F 1 84 v)) 1 96 8) 0 29) = 1 then 1536 else 0)) 0 6 0) 0 7 0) 0 30 0 = rsX F v
  rw [g29]
  rfl
theorem reset_0 (σ : Sg) : x2_reset σ 0 = rsX (fun a j => if a = 1 ∧ 0 ≤ j ∧ j < 0 + 1280 then 0 else σ a j) 1 := by
  unfold x2_reset
  rw [if_pos (show (0 : Int32) = 0 from rfl)]
  have e1 : (0 ||| ((1 : Int32) <<< ((0 : Int32) &&& 31))) = 1 := by decide +kernel
  rw [e1]
  refine lt_l ?_
  rw [iter_fill 1 0 1280 0 σ (by decide)]
  refine lt_l ?_
  generalize hF : (fun a j => if a = 1 ∧ 0 ≤ j ∧ j < 0 + 1280 then (0 : Int32) else σ a j) = F
  refine lt_l ?_
  have ec := clr_all (sst F 1 84 1)
  have ec2 : iterN 256 0 (fun i a => clrF i a) (sst F 1 84 1) = clrA (sst F 1 84 1) := ec
  unfold clrF at ec2
  refine (congrArg (fun c => lt c fun z81_1 => lt ((if ((1 : Int32) &&& 8) = 0 then z81_1 else lt (sst z81_1 1 96 8) fun s125_1 => s125_1) : Sg) fun z114_1 => lt ((if (z114_1 0 29) = 1 then 1536 else 0) : Int32) fun z135_1 => lt (sst z114_1 0 0 z135_1) fun s145_1 => lt (sst s145_1 0 6 0) fun s150_1 => lt (sst s150_1 0 7 0) fun s155_1 => lt (sst s155_1 0 30 0) fun s160_1 => s160_1) ec2).trans ?_
  have g29 : (if ((1 : Int32) &&& 8) = 0 then clrA (sst F 1 84 1) else sst (clrA (sst F 1 84 1)) 1 96 8) 0 29 = F 0 29 := by
    rw [if_pos (by decide), clrA_get]; rfl
  show sst (sst (sst (sst (if ((1 : Int32) &&& 8) = 0 then clrA (sst F 1 84 1) else sst (clrA (sst F 1 84 1)) 1 96 8) 0 0 (if ((if ((1 : Int32) &&& 8) = 0 then clrA (sst F 1 84 1) else sst (clrA (sst F 1 84 1)) 1 96 8) 0 29) = 1 then 1536 else 0)) 0 6 0) 0 7 0) 0 30 0 = rsX F 1
  rw [g29]
  rfl
