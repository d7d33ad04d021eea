/-! PLAIN LAW 6: whole instructions of registers: the model's are the board's, on one state -/
set_option maxRecDepth 100000
theorem lt_eq {α β : Type} {a a' : α} {f f' : α → β} (h1 : a = a') (h2 : ∀ x, x = a' → f x = f' x) : lt a f = lt a' f' := by
  rw [h1]; exact h2 a' rfl
theorem lt_ee {α α' β : Type} {a : α} {a' : α'} {f : α → β} {g : α' → β} (h : f a = g a') : lt a f = lt a' g := h
theorem lt_l {α β : Type} {a : α} {f : α → β} {y : β} (h : f a = y) : lt a f = y := h
theorem lt_r {α β : Type} {a : α} {f : α → β} {y : β} (h : y = f a) : y = lt a f := h
theorem set_comm (σ : Sg) {f g : Int32} (a b : Int32) (h : f &&& g = 0) : x2_set (x2_set σ f a) g b = x2_set (x2_set σ g b) f a := by
  rw [x2_set_eq, x2_set_eq, x2_set_eq, x2_set_eq, sst_eq, sst_eq, sst_sst, sst_sst, sf_comm _ _ _ h]
theorem m_flag_4 (σ : Sg) : m_flag σ 4 = if σ 1 95 &&& 16 = 0 then 0 else 1 := by
  unfold m_flag lt
  have h := shr1_bit (σ 1 95) ((4 : Int32) &&& 31) 0 16 4 (by decide) (by decide +kernel) (by decide +kernel)
  by_cases q : σ 1 95 &&& 16 = 0
  · rw [if_pos q, if_neg (fun z => h.mp z q)]
  · rw [if_neg q, if_pos (h.mpr q)]
theorem m_flag_5 (σ : Sg) : m_flag σ 5 = if σ 1 95 &&& 32 = 0 then 0 else 1 := by
  unfold m_flag lt
  have h := shr1_bit (σ 1 95) ((5 : Int32) &&& 31) 0 32 5 (by decide) (by decide +kernel) (by decide +kernel)
  by_cases q : σ 1 95 &&& 32 = 0
  · rw [if_pos q, if_neg (fun z => h.mp z q)]
  · rw [if_neg q, if_pos (h.mpr q)]
theorem c8 {v : Int32} (h : rg 0 7 v) : v = 0 ∨ v = 1 ∨ v = 2 ∨ v = 3 ∨ v = 4 ∨ v = 5 ∨ v = 6 ∨ v = 7 := by
  obtain ⟨e, e2⟩ := rg_nI h
  have h2 := h.2
  have : v.toNatClampNeg = 0 ∨ v.toNatClampNeg = 1 ∨ v.toNatClampNeg = 2 ∨ v.toNatClampNeg = 3 ∨ v.toNatClampNeg = 4 ∨ v.toNatClampNeg = 5 ∨ v.toNatClampNeg = 6 ∨ v.toNatClampNeg = 7 := by omega
  rcases this with q | q | q | q | q | q | q | q <;> rw [q] at e <;> rw [e] <;> decide
/-- a bit of a byte -/
theorem bit_sel (s : Int32) {v : Int32} (h : rg 0 7 v) : ((s >>> (v &&& 31)) &&& 1 = 1) ↔ ¬ (s &&& ((1 : Int32) <<< (v &&& 31)) = 0) := by
  rcases c8 h with rfl | rfl | rfl | rfl | rfl | rfl | rfl | rfl
  · rw [bsh0]; exact shr1_bit s _ 0 1 0 (by decide) (by decide +kernel) (by decide +kernel)
  · rw [bsh1]; exact shr1_bit s _ 0 2 1 (by decide) (by decide +kernel) (by decide +kernel)
  · rw [bsh2]; exact shr1_bit s _ 0 4 2 (by decide) (by decide +kernel) (by decide +kernel)
  · rw [bsh3]; exact shr1_bit s _ 0 8 3 (by decide) (by decide +kernel) (by decide +kernel)
  · rw [bsh4]; exact shr1_bit s _ 0 16 4 (by decide) (by decide +kernel) (by decide +kernel)
  · rw [bsh5]; exact shr1_bit s _ 0 32 5 (by decide) (by decide +kernel) (by decide +kernel)
  · rw [bsh6]; exact shr1_bit s _ 0 64 6 (by decide) (by decide +kernel) (by decide +kernel)
  · rw [bsh7]; exact shr1_bit s _ 0 128 7 (by decide) (by decide +kernel) (by decide +kernel)
theorem bit_sel_if (s : Int32) {v : Int32} (h : rg 0 7 v) : (if (s >>> (v &&& 31)) &&& 1 = 1 then (1 : Int32) else 0) = if s &&& ((1 : Int32) <<< (v &&& 31)) = 0 then 0 else 1 := by
  by_cases q : s &&& ((1 : Int32) <<< (v &&& 31)) = 0
  · rw [if_pos q, if_neg (fun z => (bit_sel s h).mp z q)]
  · rw [if_neg q, if_pos ((bit_sel s h).mpr q)]
theorem flag_is (σ : Sg) {v : Int32} (h : rg 0 7 v) : m_flag σ v = x2_is σ ((1 : Int32) <<< (v &&& 31)) := bit_sel_if (σ 1 95) h
theorem rg7 (x : Int32) : rg 0 7 (x &&& 7) := rg_and_r (rg_w rl_7 (by decide) (by decide))
/-- bit 15 -/
theorem and32768_iff (z : Int32) : z &&& 32768 = 0 ↔ z.toInt % 65536 < 32768 := by
  rw [bit_mask z 15 (by decide) (by decide +kernel)]
  have h := bit_int z 15
  rcases toInt_cases z with h2 | h2
  · cases q : z.toBitVec.getLsbD 15 with
    | false => rw [q] at h; simp at h ⊢; omega
    | true => rw [q] at h; simp at h ⊢; omega
  · cases q : z.toBitVec.getLsbD 15 with
    | false => rw [q] at h; simp at h ⊢; omega
    | true => rw [q] at h; simp at h ⊢; omega
theorem b15_iff (z : Int32) : z.toBitVec.getLsbD 15 = false ↔ z.toInt % 65536 < 32768 := by
  rw [← bit_mask z (f := 32768) 15 (by decide) (by decide +kernel)]; exact and32768_iff z
theorem and32768_na (a z : Int32) : (((a ^^^ (-1)) &&& z) &&& 32768 = 0) ↔ (¬ (a.toInt % 65536 < 32768) ∨ z.toInt % 65536 < 32768) := by
  rw [bit_mask _ 15 (by decide) (by decide +kernel), gl_and, gl_xor, gl_m1 15 (by decide), ← b15_iff a, ← b15_iff z]
  cases a.toBitVec.getLsbD 15 <;> cases z.toBitVec.getLsbD 15 <;> simp
theorem ti32768 : (32768 : Int32).toInt = 32768 := by decide +kernel
theorem ti65535 : (65535 : Int32).toInt = 65535 := by decide +kernel
theorem ififf {α : Type} {c e : Prop} [Decidable c] [Decidable e] {a b : α} (h : c ↔ e) : (if c then a else b) = if e then a else b := by
  by_cases q : e
  · rw [if_pos q, if_pos (h.mpr q)]
  · rw [if_neg q, if_neg (fun z => q (h.mp z))]
theorem ifniff {α : Type} {c e : Prop} [Decidable c] [Decidable e] {a b : α} (h : c ↔ ¬ e) : (if c then a else b) = if e then b else a := by
  by_cases q : e
  · rw [if_pos q, if_neg (fun z => h.mp z q)]
  · rw [if_neg q, if_pos (h.mpr q)]
/-- the five flags, in both orders -/
theorem flags5 (s : Sg) (c E n z : Int32) : (lt c fun z76 => lt (m_setFlag s 0 z76) fun s107 => lt ((if E &&& 32768 = 0 then 0 else 1) : Int32) fun z114 => lt (m_setFlag s107 3 z114) fun s162 => lt n fun z172 => lt (m_setFlag s162 2 z172) fun s180 => lt z fun z187 => lt (m_setFlag s180 1 z187) fun s195 => lt ((if (m_flag s195 2) = (m_flag s195 3) then 0 else 1) : Int32) fun z210 => lt (m_setFlag s195 4 z210) fun s218 => ((2 : Int32), s218))
    = lt c fun z73 => lt (x2_set s 1 z73) fun s88 => lt n fun z98 => lt (x2_set s88 4 z98) fun s106 => lt z fun z116 => lt (x2_set s106 2 z116) fun s124 => lt E fun z132 => lt ((if z132 &&& 32768 = 0 then 0 else 1) : Int32) fun z155 => lt (x2_set s124 8 z155) fun s163 => lt ((if (x2_is s163 4) = (x2_is s163 8) then 0 else 1) : Int32) fun z180 => lt (x2_set s163 16 z180) fun s188 => ((2 : Int32), s188) := by
  refine lt_ee ?_
  refine lt_e (by rw [setFlag_set, bsh0]) (fun s => ?_)
  refine lt_l (lt_l (lt_l (lt_l (lt_l (lt_l (lt_r (lt_r (lt_r (lt_r (lt_r (lt_r (lt_r ?_))))))))))))
  generalize (if E &&& 32768 = 0 then (0 : Int32) else 1) = v
  have e : m_setFlag (m_setFlag (m_setFlag s 3 v) 2 n) 1 z = x2_set (x2_set (x2_set s 4 n) 2 z) 8 v := by
    rw [setFlag_set, setFlag_set, setFlag_set, bsh3, bsh2, bsh1, set_comm s v n (by decide +kernel), set_comm (x2_set s 4 n) v z (by decide +kernel)]
  rw [e]
  refine lt_e ?_ (fun w => ?_)
  · rw [m_flag_2, m_flag_3]; rfl
  · rw [setFlag_set, bsh4]
theorem words_eq (σ : Sg) (ok : XOK σ) (x1 : Int32) : m_pairs σ x1 = x2_words σ x1 := by
  unfold m_pairs x2_words
  refine lt_eq rfl (fun v9 e9 => ?_)
  refine lt_eq (by rw [Int32.or_comm]) (fun v21 e21 => ?_)
  have h21 : rg 0 63 v21 := by rw [e21]; exact rg_or 6 (rg_and_r (rg_w rl_48 (by decide) (by decide) : rg 0 48 48)) (rg_and_r (rg_w rl_15 (by decide) (by decide) : rg 0 15 15)) (by decide) (by decide) (by decide)
  refine lt_eq (by rw [mptr]) (fun v27 e27 => ?_)
  have h27 : rg 0 65535 v27 := by
    rw [e27]; unfold x2_pair
    exact rg_or 16 (rg_shl 8 (by decide +kernel) (xr_1 ok _) (by decide)) (xr_1 ok _) (by decide) (by decide) (by decide)
  clear e9 e21 e27
  have hs := h27.1; have hs2 := h27.2; have ht := h21.1; have ht2 := h21.2
  by_cases h : x1 &&& 256 = 0
  · rw [if_pos h, if_pos h]
    refine lt_ee ?_
    rw [if_neg (show ¬ (1 : Int32) = 0 by decide), if_pos (show (0 : Int32) = 0 from rfl)]
    refine lt_eq rfl (fun z46 e46 => ?_)
    have e1 : z46.toInt = v27.toInt + v21.toInt := by rw [e46, toInt_add' (by omega) (by omega)]
    refine lt_l ?_
    refine lt_e (by rw [msetptr, toPair16]) (fun s => ?_)
    rw [if_neg (show ¬ (1 : Int32) = 0 by decide), if_neg (show ¬ (1 : Int32) = 0 by decide), if_pos (show (0 : Int32) = 0 from rfl)]
    have c1 : (if 65535 < v27 + v21 then (1 : Int32) else 0) = if (z46 < 0) ∨ (65535 < z46) then 1 else 0 := by
      rw [← e46]; refine ififf ?_
      rw [i_lt, i_lt, ti0, ti65535]; omega
    have c2 : (if (¬ v27 < 32768) ∨ (z46 &&& 65535) < 32768 then (0 : Int32) else 1) = if ((v27 ^^^ (-1)) &&& z46) &&& 32768 = 0 then 0 else 1 := by
      refine ififf ?_
      rw [and32768_na, i_lt, i_lt, ti32768, and65535]; omega
    have c3 : (if (z46 &&& 65535) < 32768 then (0 : Int32) else 1) = if z46 &&& 32768 = 0 then 0 else 1 := by
      refine ififf ?_
      rw [and32768_iff, i_lt, ti32768, and65535]
    rw [c1, c2, c3]
    exact flags5 s _ _ _ _
  · rw [if_neg h, if_neg h]
    refine lt_ee ?_
    rw [if_pos (show (0 : Int32) = 0 from rfl), if_neg (show ¬ (1 : Int32) = 0 by decide)]
    refine lt_eq rfl (fun z46 e46 => ?_)
    have e1 : z46.toInt = v27.toInt - v21.toInt := by rw [e46, toInt_sub' (by omega) (by omega)]
    refine lt_l ?_
    refine lt_e (by rw [msetptr, toPair16]) (fun s => ?_)
    rw [if_pos (show (0 : Int32) = 0 from rfl), if_pos (show (0 : Int32) = 0 from rfl), if_neg (show ¬ (1 : Int32) = 0 by decide)]
    have c1 : (if v27 < v21 then (1 : Int32) else 0) = if (z46 < 0) ∨ (65535 < z46) then 1 else 0 := by
      refine ififf ?_
      rw [i_lt, i_lt, i_lt, ti0, ti65535]; omega
    have c2 : (if (v27 < 32768) ∨ ¬ (z46 &&& 65535) < 32768 then (0 : Int32) else 1) = if (v27 &&& (z46 ^^^ (-1))) &&& 32768 = 0 then 0 else 1 := by
      rw [Int32.and_comm v27]
      refine ififf ?_
      rw [and32768_na, i_lt, i_lt, ti32768, and65535]; omega
    have c3 : (if (z46 &&& 65535) < 32768 then (0 : Int32) else 1) = if z46 &&& 32768 = 0 then 0 else 1 := by
      refine ififf ?_
      rw [and32768_iff, i_lt, ti32768, and65535]
    rw [c1, c2, c3]
    exact flags5 s _ _ _ _
