/-! PLAIN LAW 24: nines, relative jumps, the whole instruction (printed by gen_law24.py) -/
set_option maxRecDepth 100000
theorem b512 (x : Int32) : (x &&& 512 = 0) ↔ x.toInt / 512 % 2 = 0 := by
  have c := bit_int' x (f := 512) 9 (by decide) (by decide +kernel)
  have e2 : ((2 ^ 9 : Nat) : Int) = 512 := by decide
  rw [e2] at c
  exact c
theorem nine_v {x : Int32} {a : Int32} {c : Int} (h : (x >>> (8 : Int32)) &&& 15 = a) (ha : a.toInt = c) : x.toInt / 256 % 16 = c := by
  rw [i_eq, and15, shr8i, ha] at h; exact h
theorem nine_m {x : Int32} {b : Int32} {c d : Int} (h : x.toInt / 256 % 16 = c) (hb : b.toInt = d) (hd : c / 2 = d) : (x >>> (9 : Int32)) &&& 7 = b := by
  rw [i_eq, and7, shr9i, hb]; omega
theorem nine_0 {x : Int32} {c : Int} (h : x.toInt / 256 % 16 = c) (hd : c / 2 % 2 = 0) : x &&& 512 = 0 := by
  rw [b512]; omega
theorem nine_1 {x : Int32} {c : Int} (h : x.toInt / 256 % 16 = c) (hd : c / 2 % 2 = 1) : ¬ x &&& 512 = 0 := by
  rw [b512]; omega

theorem R_nine {b : Bool} {σ τ : Sg} (h : R b σ τ) (ok : XOK σ) (okt : XOK τ) (h6 : σ 0 6 = 0) (h7 : σ 0 7 = 0) (x1 : Int32) {k : Int32} (hk : k = if τ 0 36 < 1536 then 0 else 1) : RP b (x2_nine σ x1 k) (m_nines τ x1) := by
  unfold x2_nine m_nines
  refine ltl_P (ltr_P ?_)
  rcases c16 (rg15 (x1 >>> (8 : Int32))) with q | q | q | q | q | q | q | q | q | q | q | q | q | q | q | q
  · have qv := nine_v q (c := 0) (by decide +kernel)
    have qm : (x1 >>> (9 : Int32)) &&& 7 = 0 := nine_m qv (d := 0) (by decide +kernel) (by decide)
    have a0 : (((((x1 >>> (8 : Int32)) &&& 15) = 0) ∨ (((x1 >>> (8 : Int32)) &&& 15) = 1)) ∨ (((x1 >>> (8 : Int32)) &&& 15) = 2)) ∨ (((x1 >>> (8 : Int32)) &&& 15) = 3) := by rw [q] <;> decide
    have a4 : ¬ ((((x1 >>> (8 : Int32)) &&& 15) = 4) ∨ (((x1 >>> (8 : Int32)) &&& 15) = 5)) := by rw [q] <;> decide
    have a6 : ¬ ((((x1 >>> (8 : Int32)) &&& 15) = 6) ∨ (((x1 >>> (8 : Int32)) &&& 15) = 7)) := by rw [q] <;> decide
    have a8 : ¬ ((((((x1 >>> (8 : Int32)) &&& 15) = 8) ∨ (((x1 >>> (8 : Int32)) &&& 15) = 9)) ∨ (((x1 >>> (8 : Int32)) &&& 15) = 10)) ∨ (((x1 >>> (8 : Int32)) &&& 15) = 11)) := by rw [q] <;> decide
    have b0 : ((x1 >>> (9 : Int32)) &&& 7) = 0 := by rw [qm] <;> decide
    have b1 : ¬ (((x1 >>> (9 : Int32)) &&& 7) = 1) := by rw [qm] <;> decide
    have b2 : ¬ (((x1 >>> (9 : Int32)) &&& 7) = 2) := by rw [qm] <;> decide
    have b3 : ¬ (((x1 >>> (9 : Int32)) &&& 7) = 3) := by rw [qm] <;> decide
    have b4 : ¬ ((((x1 >>> (9 : Int32)) &&& 7) = 4) ∨ (((x1 >>> (9 : Int32)) &&& 7) = 5)) := by rw [qm] <;> decide
    simp only [if_pos a0, if_neg a4, if_neg a6, if_neg a8, if_pos b0, if_neg b1, if_neg b2, if_neg b3, if_neg b4]
    exact ltP_P (R_loads h ok okt (nine_0 qv (by decide)) hk) (fun v s t h => RP_i rfl h)
  · have qv := nine_v q (c := 1) (by decide +kernel)
    have qm : (x1 >>> (9 : Int32)) &&& 7 = 0 := nine_m qv (d := 0) (by decide +kernel) (by decide)
    have a0 : (((((x1 >>> (8 : Int32)) &&& 15) = 0) ∨ (((x1 >>> (8 : Int32)) &&& 15) = 1)) ∨ (((x1 >>> (8 : Int32)) &&& 15) = 2)) ∨ (((x1 >>> (8 : Int32)) &&& 15) = 3) := by rw [q] <;> decide
    have a4 : ¬ ((((x1 >>> (8 : Int32)) &&& 15) = 4) ∨ (((x1 >>> (8 : Int32)) &&& 15) = 5)) := by rw [q] <;> decide
    have a6 : ¬ ((((x1 >>> (8 : Int32)) &&& 15) = 6) ∨ (((x1 >>> (8 : Int32)) &&& 15) = 7)) := by rw [q] <;> decide
    have a8 : ¬ ((((((x1 >>> (8 : Int32)) &&& 15) = 8) ∨ (((x1 >>> (8 : Int32)) &&& 15) = 9)) ∨ (((x1 >>> (8 : Int32)) &&& 15) = 10)) ∨ (((x1 >>> (8 : Int32)) &&& 15) = 11)) := by rw [q] <;> decide
    have b0 : ((x1 >>> (9 : Int32)) &&& 7) = 0 := by rw [qm] <;> decide
    have b1 : ¬ (((x1 >>> (9 : Int32)) &&& 7) = 1) := by rw [qm] <;> decide
    have b2 : ¬ (((x1 >>> (9 : Int32)) &&& 7) = 2) := by rw [qm] <;> decide
    have b3 : ¬ (((x1 >>> (9 : Int32)) &&& 7) = 3) := by rw [qm] <;> decide
    have b4 : ¬ ((((x1 >>> (9 : Int32)) &&& 7) = 4) ∨ (((x1 >>> (9 : Int32)) &&& 7) = 5)) := by rw [qm] <;> decide
    simp only [if_pos a0, if_neg a4, if_neg a6, if_neg a8, if_pos b0, if_neg b1, if_neg b2, if_neg b3, if_neg b4]
    exact ltP_P (R_loads h ok okt (nine_0 qv (by decide)) hk) (fun v s t h => RP_i rfl h)
  · have qv := nine_v q (c := 2) (by decide +kernel)
    have qm : (x1 >>> (9 : Int32)) &&& 7 = 1 := nine_m qv (d := 1) (by decide +kernel) (by decide)
    have a0 : (((((x1 >>> (8 : Int32)) &&& 15) = 0) ∨ (((x1 >>> (8 : Int32)) &&& 15) = 1)) ∨ (((x1 >>> (8 : Int32)) &&& 15) = 2)) ∨ (((x1 >>> (8 : Int32)) &&& 15) = 3) := by rw [q] <;> decide
    have a4 : ¬ ((((x1 >>> (8 : Int32)) &&& 15) = 4) ∨ (((x1 >>> (8 : Int32)) &&& 15) = 5)) := by rw [q] <;> decide
    have a6 : ¬ ((((x1 >>> (8 : Int32)) &&& 15) = 6) ∨ (((x1 >>> (8 : Int32)) &&& 15) = 7)) := by rw [q] <;> decide
    have a8 : ¬ ((((((x1 >>> (8 : Int32)) &&& 15) = 8) ∨ (((x1 >>> (8 : Int32)) &&& 15) = 9)) ∨ (((x1 >>> (8 : Int32)) &&& 15) = 10)) ∨ (((x1 >>> (8 : Int32)) &&& 15) = 11)) := by rw [q] <;> decide
    have b0 : ¬ (((x1 >>> (9 : Int32)) &&& 7) = 0) := by rw [qm] <;> decide
    have b1 : ((x1 >>> (9 : Int32)) &&& 7) = 1 := by rw [qm] <;> decide
    have b2 : ¬ (((x1 >>> (9 : Int32)) &&& 7) = 2) := by rw [qm] <;> decide
    have b3 : ¬ (((x1 >>> (9 : Int32)) &&& 7) = 3) := by rw [qm] <;> decide
    have b4 : ¬ ((((x1 >>> (9 : Int32)) &&& 7) = 4) ∨ (((x1 >>> (9 : Int32)) &&& 7) = 5)) := by rw [qm] <;> decide
    simp only [if_pos a0, if_neg a4, if_neg a6, if_neg a8, if_neg b0, if_pos b1, if_neg b2, if_neg b3, if_neg b4]
    exact ltP_P (R_storesI h ok okt k (nine_1 qv (by decide))) (fun v s t h => RP_i rfl h)
  · have qv := nine_v q (c := 3) (by decide +kernel)
    have qm : (x1 >>> (9 : Int32)) &&& 7 = 1 := nine_m qv (d := 1) (by decide +kernel) (by decide)
    have a0 : (((((x1 >>> (8 : Int32)) &&& 15) = 0) ∨ (((x1 >>> (8 : Int32)) &&& 15) = 1)) ∨ (((x1 >>> (8 : Int32)) &&& 15) = 2)) ∨ (((x1 >>> (8 : Int32)) &&& 15) = 3) := by rw [q] <;> decide
    have a4 : ¬ ((((x1 >>> (8 : Int32)) &&& 15) = 4) ∨ (((x1 >>> (8 : Int32)) &&& 15) = 5)) := by rw [q] <;> decide
    have a6 : ¬ ((((x1 >>> (8 : Int32)) &&& 15) = 6) ∨ (((x1 >>> (8 : Int32)) &&& 15) = 7)) := by rw [q] <;> decide
    have a8 : ¬ ((((((x1 >>> (8 : Int32)) &&& 15) = 8) ∨ (((x1 >>> (8 : Int32)) &&& 15) = 9)) ∨ (((x1 >>> (8 : Int32)) &&& 15) = 10)) ∨ (((x1 >>> (8 : Int32)) &&& 15) = 11)) := by rw [q] <;> decide
    have b0 : ¬ (((x1 >>> (9 : Int32)) &&& 7) = 0) := by rw [qm] <;> decide
    have b1 : ((x1 >>> (9 : Int32)) &&& 7) = 1 := by rw [qm] <;> decide
    have b2 : ¬ (((x1 >>> (9 : Int32)) &&& 7) = 2) := by rw [qm] <;> decide
    have b3 : ¬ (((x1 >>> (9 : Int32)) &&& 7) = 3) := by rw [qm] <;> decide
    have b4 : ¬ ((((x1 >>> (9 : Int32)) &&& 7) = 4) ∨ (((x1 >>> (9 : Int32)) &&& 7) = 5)) := by rw [qm] <;> decide
    simp only [if_pos a0, if_neg a4, if_neg a6, if_neg a8, if_neg b0, if_pos b1, if_neg b2, if_neg b3, if_neg b4]
    exact ltP_P (R_storesI h ok okt k (nine_1 qv (by decide))) (fun v s t h => RP_i rfl h)
  · have qv := nine_v q (c := 4) (by decide +kernel)
    have qm : (x1 >>> (9 : Int32)) &&& 7 = 2 := nine_m qv (d := 2) (by decide +kernel) (by decide)
    have a0 : ¬ ((((((x1 >>> (8 : Int32)) &&& 15) = 0) ∨ (((x1 >>> (8 : Int32)) &&& 15) = 1)) ∨ (((x1 >>> (8 : Int32)) &&& 15) = 2)) ∨ (((x1 >>> (8 : Int32)) &&& 15) = 3)) := by rw [q] <;> decide
    have a4 : (((x1 >>> (8 : Int32)) &&& 15) = 4) ∨ (((x1 >>> (8 : Int32)) &&& 15) = 5) := by rw [q] <;> decide
    have a6 : ¬ ((((x1 >>> (8 : Int32)) &&& 15) = 6) ∨ (((x1 >>> (8 : Int32)) &&& 15) = 7)) := by rw [q] <;> decide
    have a8 : ¬ ((((((x1 >>> (8 : Int32)) &&& 15) = 8) ∨ (((x1 >>> (8 : Int32)) &&& 15) = 9)) ∨ (((x1 >>> (8 : Int32)) &&& 15) = 10)) ∨ (((x1 >>> (8 : Int32)) &&& 15) = 11)) := by rw [q] <;> decide
    have b0 : ¬ (((x1 >>> (9 : Int32)) &&& 7) = 0) := by rw [qm] <;> decide
    have b1 : ¬ (((x1 >>> (9 : Int32)) &&& 7) = 1) := by rw [qm] <;> decide
    have b2 : ((x1 >>> (9 : Int32)) &&& 7) = 2 := by rw [qm] <;> decide
    have b3 : ¬ (((x1 >>> (9 : Int32)) &&& 7) = 3) := by rw [qm] <;> decide
    have b4 : ¬ ((((x1 >>> (9 : Int32)) &&& 7) = 4) ∨ (((x1 >>> (9 : Int32)) &&& 7) = 5)) := by rw [qm] <;> decide
    simp only [if_neg a0, if_pos a4, if_neg a6, if_neg a8, if_neg b0, if_neg b1, if_pos b2, if_neg b3, if_neg b4]
    exact ltP_P (R_one h ok okt h6 h7 x1 hk) (fun v s t h => RP_i rfl h)
  · have qv := nine_v q (c := 5) (by decide +kernel)
    have qm : (x1 >>> (9 : Int32)) &&& 7 = 2 := nine_m qv (d := 2) (by decide +kernel) (by decide)
    have a0 : ¬ ((((((x1 >>> (8 : Int32)) &&& 15) = 0) ∨ (((x1 >>> (8 : Int32)) &&& 15) = 1)) ∨ (((x1 >>> (8 : Int32)) &&& 15) = 2)) ∨ (((x1 >>> (8 : Int32)) &&& 15) = 3)) := by rw [q] <;> decide
    have a4 : (((x1 >>> (8 : Int32)) &&& 15) = 4) ∨ (((x1 >>> (8 : Int32)) &&& 15) = 5) := by rw [q] <;> decide
    have a6 : ¬ ((((x1 >>> (8 : Int32)) &&& 15) = 6) ∨ (((x1 >>> (8 : Int32)) &&& 15) = 7)) := by rw [q] <;> decide
    have a8 : ¬ ((((((x1 >>> (8 : Int32)) &&& 15) = 8) ∨ (((x1 >>> (8 : Int32)) &&& 15) = 9)) ∨ (((x1 >>> (8 : Int32)) &&& 15) = 10)) ∨ (((x1 >>> (8 : Int32)) &&& 15) = 11)) := by rw [q] <;> decide
    have b0 : ¬ (((x1 >>> (9 : Int32)) &&& 7) = 0) := by rw [qm] <;> decide
    have b1 : ¬ (((x1 >>> (9 : Int32)) &&& 7) = 1) := by rw [qm] <;> decide
    have b2 : ((x1 >>> (9 : Int32)) &&& 7) = 2 := by rw [qm] <;> decide
    have b3 : ¬ (((x1 >>> (9 : Int32)) &&& 7) = 3) := by rw [qm] <;> decide
    have b4 : ¬ ((((x1 >>> (9 : Int32)) &&& 7) = 4) ∨ (((x1 >>> (9 : Int32)) &&& 7) = 5)) := by rw [qm] <;> decide
    simp only [if_neg a0, if_pos a4, if_neg a6, if_neg a8, if_neg b0, if_neg b1, if_pos b2, if_neg b3, if_neg b4]
    exact ltP_P (R_one h ok okt h6 h7 x1 hk) (fun v s t h => RP_i rfl h)
  · have qv := nine_v q (c := 6) (by decide +kernel)
    have qm : (x1 >>> (9 : Int32)) &&& 7 = 3 := nine_m qv (d := 3) (by decide +kernel) (by decide)
    have a0 : ¬ ((((((x1 >>> (8 : Int32)) &&& 15) = 0) ∨ (((x1 >>> (8 : Int32)) &&& 15) = 1)) ∨ (((x1 >>> (8 : Int32)) &&& 15) = 2)) ∨ (((x1 >>> (8 : Int32)) &&& 15) = 3)) := by rw [q] <;> decide
    have a4 : ¬ ((((x1 >>> (8 : Int32)) &&& 15) = 4) ∨ (((x1 >>> (8 : Int32)) &&& 15) = 5)) := by rw [q] <;> decide
    have a6 : (((x1 >>> (8 : Int32)) &&& 15) = 6) ∨ (((x1 >>> (8 : Int32)) &&& 15) = 7) := by rw [q] <;> decide
    have a8 : ¬ ((((((x1 >>> (8 : Int32)) &&& 15) = 8) ∨ (((x1 >>> (8 : Int32)) &&& 15) = 9)) ∨ (((x1 >>> (8 : Int32)) &&& 15) = 10)) ∨ (((x1 >>> (8 : Int32)) &&& 15) = 11)) := by rw [q] <;> decide
    have b0 : ¬ (((x1 >>> (9 : Int32)) &&& 7) = 0) := by rw [qm] <;> decide
    have b1 : ¬ (((x1 >>> (9 : Int32)) &&& 7) = 1) := by rw [qm] <;> decide
    have b2 : ¬ (((x1 >>> (9 : Int32)) &&& 7) = 2) := by rw [qm] <;> decide
    have b3 : ((x1 >>> (9 : Int32)) &&& 7) = 3 := by rw [qm] <;> decide
    have b4 : ¬ ((((x1 >>> (9 : Int32)) &&& 7) = 4) ∨ (((x1 >>> (9 : Int32)) &&& 7) = 5)) := by rw [qm] <;> decide
    simp only [if_neg a0, if_neg a4, if_pos a6, if_neg a8, if_neg b0, if_neg b1, if_neg b2, if_pos b3, if_neg b4]
    rw [words_eq τ okt]
    exact ltP_P (R_x2_words h x1) (fun v s t h => RP_i rfl h)
  · have qv := nine_v q (c := 7) (by decide +kernel)
    have qm : (x1 >>> (9 : Int32)) &&& 7 = 3 := nine_m qv (d := 3) (by decide +kernel) (by decide)
    have a0 : ¬ ((((((x1 >>> (8 : Int32)) &&& 15) = 0) ∨ (((x1 >>> (8 : Int32)) &&& 15) = 1)) ∨ (((x1 >>> (8 : Int32)) &&& 15) = 2)) ∨ (((x1 >>> (8 : Int32)) &&& 15) = 3)) := by rw [q] <;> decide
    have a4 : ¬ ((((x1 >>> (8 : Int32)) &&& 15) = 4) ∨ (((x1 >>> (8 : Int32)) &&& 15) = 5)) := by rw [q] <;> decide
    have a6 : (((x1 >>> (8 : Int32)) &&& 15) = 6) ∨ (((x1 >>> (8 : Int32)) &&& 15) = 7) := by rw [q] <;> decide
    have a8 : ¬ ((((((x1 >>> (8 : Int32)) &&& 15) = 8) ∨ (((x1 >>> (8 : Int32)) &&& 15) = 9)) ∨ (((x1 >>> (8 : Int32)) &&& 15) = 10)) ∨ (((x1 >>> (8 : Int32)) &&& 15) = 11)) := by rw [q] <;> decide
    have b0 : ¬ (((x1 >>> (9 : Int32)) &&& 7) = 0) := by rw [qm] <;> decide
    have b1 : ¬ (((x1 >>> (9 : Int32)) &&& 7) = 1) := by rw [qm] <;> decide
    have b2 : ¬ (((x1 >>> (9 : Int32)) &&& 7) = 2) := by rw [qm] <;> decide
    have b3 : ((x1 >>> (9 : Int32)) &&& 7) = 3 := by rw [qm] <;> decide
    have b4 : ¬ ((((x1 >>> (9 : Int32)) &&& 7) = 4) ∨ (((x1 >>> (9 : Int32)) &&& 7) = 5)) := by rw [qm] <;> decide
    simp only [if_neg a0, if_neg a4, if_pos a6, if_neg a8, if_neg b0, if_neg b1, if_neg b2, if_pos b3, if_neg b4]
    rw [words_eq τ okt]
    exact ltP_P (R_x2_words h x1) (fun v s t h => RP_i rfl h)
  · have qv := nine_v q (c := 8) (by decide +kernel)
    have qm : (x1 >>> (9 : Int32)) &&& 7 = 4 := nine_m qv (d := 4) (by decide +kernel) (by decide)
    have a0 : ¬ ((((((x1 >>> (8 : Int32)) &&& 15) = 0) ∨ (((x1 >>> (8 : Int32)) &&& 15) = 1)) ∨ (((x1 >>> (8 : Int32)) &&& 15) = 2)) ∨ (((x1 >>> (8 : Int32)) &&& 15) = 3)) := by rw [q] <;> decide
    have a4 : ¬ ((((x1 >>> (8 : Int32)) &&& 15) = 4) ∨ (((x1 >>> (8 : Int32)) &&& 15) = 5)) := by rw [q] <;> decide
    have a6 : ¬ ((((x1 >>> (8 : Int32)) &&& 15) = 6) ∨ (((x1 >>> (8 : Int32)) &&& 15) = 7)) := by rw [q] <;> decide
    have a8 : (((((x1 >>> (8 : Int32)) &&& 15) = 8) ∨ (((x1 >>> (8 : Int32)) &&& 15) = 9)) ∨ (((x1 >>> (8 : Int32)) &&& 15) = 10)) ∨ (((x1 >>> (8 : Int32)) &&& 15) = 11) := by rw [q] <;> decide
    have b0 : ¬ (((x1 >>> (9 : Int32)) &&& 7) = 0) := by rw [qm] <;> decide
    have b1 : ¬ (((x1 >>> (9 : Int32)) &&& 7) = 1) := by rw [qm] <;> decide
    have b2 : ¬ (((x1 >>> (9 : Int32)) &&& 7) = 2) := by rw [qm] <;> decide
    have b3 : ¬ (((x1 >>> (9 : Int32)) &&& 7) = 3) := by rw [qm] <;> decide
    have b4 : (((x1 >>> (9 : Int32)) &&& 7) = 4) ∨ (((x1 >>> (9 : Int32)) &&& 7) = 5) := by rw [qm] <;> decide
    simp only [if_neg a0, if_neg a4, if_neg a6, if_pos a8, if_neg b0, if_neg b1, if_neg b2, if_neg b3, if_pos b4]
    exact ltP_P (R_portBits h ok okt x1) (fun v s t h => RP_i rfl h)
  · have qv := nine_v q (c := 9) (by decide +kernel)
    have qm : (x1 >>> (9 : Int32)) &&& 7 = 4 := nine_m qv (d := 4) (by decide +kernel) (by decide)
    have a0 : ¬ ((((((x1 >>> (8 : Int32)) &&& 15) = 0) ∨ (((x1 >>> (8 : Int32)) &&& 15) = 1)) ∨ (((x1 >>> (8 : Int32)) &&& 15) = 2)) ∨ (((x1 >>> (8 : Int32)) &&& 15) = 3)) := by rw [q] <;> decide
    have a4 : ¬ ((((x1 >>> (8 : Int32)) &&& 15) = 4) ∨ (((x1 >>> (8 : Int32)) &&& 15) = 5)) := by rw [q] <;> decide
    have a6 : ¬ ((((x1 >>> (8 : Int32)) &&& 15) = 6) ∨ (((x1 >>> (8 : Int32)) &&& 15) = 7)) := by rw [q] <;> decide
    have a8 : (((((x1 >>> (8 : Int32)) &&& 15) = 8) ∨ (((x1 >>> (8 : Int32)) &&& 15) = 9)) ∨ (((x1 >>> (8 : Int32)) &&& 15) = 10)) ∨ (((x1 >>> (8 : Int32)) &&& 15) = 11) := by rw [q] <;> decide
    have b0 : ¬ (((x1 >>> (9 : Int32)) &&& 7) = 0) := by rw [qm] <;> decide
    have b1 : ¬ (((x1 >>> (9 : Int32)) &&& 7) = 1) := by rw [qm] <;> decide
    have b2 : ¬ (((x1 >>> (9 : Int32)) &&& 7) = 2) := by rw [qm] <;> decide
    have b3 : ¬ (((x1 >>> (9 : Int32)) &&& 7) = 3) := by rw [qm] <;> decide
    have b4 : (((x1 >>> (9 : Int32)) &&& 7) = 4) ∨ (((x1 >>> (9 : Int32)) &&& 7) = 5) := by rw [qm] <;> decide
    simp only [if_neg a0, if_neg a4, if_neg a6, if_pos a8, if_neg b0, if_neg b1, if_neg b2, if_neg b3, if_pos b4]
    exact ltP_P (R_portBits h ok okt x1) (fun v s t h => RP_i rfl h)
  · have qv := nine_v q (c := 10) (by decide +kernel)
    have qm : (x1 >>> (9 : Int32)) &&& 7 = 5 := nine_m qv (d := 5) (by decide +kernel) (by decide)
    have a0 : ¬ ((((((x1 >>> (8 : Int32)) &&& 15) = 0) ∨ (((x1 >>> (8 : Int32)) &&& 15) = 1)) ∨ (((x1 >>> (8 : Int32)) &&& 15) = 2)) ∨ (((x1 >>> (8 : Int32)) &&& 15) = 3)) := by rw [q] <;> decide
    have a4 : ¬ ((((x1 >>> (8 : Int32)) &&& 15) = 4) ∨ (((x1 >>> (8 : Int32)) &&& 15) = 5)) := by rw [q] <;> decide
    have a6 : ¬ ((((x1 >>> (8 : Int32)) &&& 15) = 6) ∨ (((x1 >>> (8 : Int32)) &&& 15) = 7)) := by rw [q] <;> decide
    have a8 : (((((x1 >>> (8 : Int32)) &&& 15) = 8) ∨ (((x1 >>> (8 : Int32)) &&& 15) = 9)) ∨ (((x1 >>> (8 : Int32)) &&& 15) = 10)) ∨ (((x1 >>> (8 : Int32)) &&& 15) = 11) := by rw [q] <;> decide
    have b0 : ¬ (((x1 >>> (9 : Int32)) &&& 7) = 0) := by rw [qm] <;> decide
    have b1 : ¬ (((x1 >>> (9 : Int32)) &&& 7) = 1) := by rw [qm] <;> decide
    have b2 : ¬ (((x1 >>> (9 : Int32)) &&& 7) = 2) := by rw [qm] <;> decide
    have b3 : ¬ (((x1 >>> (9 : Int32)) &&& 7) = 3) := by rw [qm] <;> decide
    have b4 : (((x1 >>> (9 : Int32)) &&& 7) = 4) ∨ (((x1 >>> (9 : Int32)) &&& 7) = 5) := by rw [qm] <;> decide
    simp only [if_neg a0, if_neg a4, if_neg a6, if_pos a8, if_neg b0, if_neg b1, if_neg b2, if_neg b3, if_pos b4]
    exact ltP_P (R_portBits h ok okt x1) (fun v s t h => RP_i rfl h)
  · have qv := nine_v q (c := 11) (by decide +kernel)
    have qm : (x1 >>> (9 : Int32)) &&& 7 = 5 := nine_m qv (d := 5) (by decide +kernel) (by decide)
    have a0 : ¬ ((((((x1 >>> (8 : Int32)) &&& 15) = 0) ∨ (((x1 >>> (8 : Int32)) &&& 15) = 1)) ∨ (((x1 >>> (8 : Int32)) &&& 15) = 2)) ∨ (((x1 >>> (8 : Int32)) &&& 15) = 3)) := by rw [q] <;> decide
    have a4 : ¬ ((((x1 >>> (8 : Int32)) &&& 15) = 4) ∨ (((x1 >>> (8 : Int32)) &&& 15) = 5)) := by rw [q] <;> decide
    have a6 : ¬ ((((x1 >>> (8 : Int32)) &&& 15) = 6) ∨ (((x1 >>> (8 : Int32)) &&& 15) = 7)) := by rw [q] <;> decide
    have a8 : (((((x1 >>> (8 : Int32)) &&& 15) = 8) ∨ (((x1 >>> (8 : Int32)) &&& 15) = 9)) ∨ (((x1 >>> (8 : Int32)) &&& 15) = 10)) ∨ (((x1 >>> (8 : Int32)) &&& 15) = 11) := by rw [q] <;> decide
    have b0 : ¬ (((x1 >>> (9 : Int32)) &&& 7) = 0) := by rw [qm] <;> decide
    have b1 : ¬ (((x1 >>> (9 : Int32)) &&& 7) = 1) := by rw [qm] <;> decide
    have b2 : ¬ (((x1 >>> (9 : Int32)) &&& 7) = 2) := by rw [qm] <;> decide
    have b3 : ¬ (((x1 >>> (9 : Int32)) &&& 7) = 3) := by rw [qm] <;> decide
    have b4 : (((x1 >>> (9 : Int32)) &&& 7) = 4) ∨ (((x1 >>> (9 : Int32)) &&& 7) = 5) := by rw [qm] <;> decide
    simp only [if_neg a0, if_neg a4, if_neg a6, if_pos a8, if_neg b0, if_neg b1, if_neg b2, if_neg b3, if_pos b4]
    exact ltP_P (R_portBits h ok okt x1) (fun v s t h => RP_i rfl h)
  · have qv := nine_v q (c := 12) (by decide +kernel)
    have qm : (x1 >>> (9 : Int32)) &&& 7 = 6 := nine_m qv (d := 6) (by decide +kernel) (by decide)
    have a0 : ¬ ((((((x1 >>> (8 : Int32)) &&& 15) = 0) ∨ (((x1 >>> (8 : Int32)) &&& 15) = 1)) ∨ (((x1 >>> (8 : Int32)) &&& 15) = 2)) ∨ (((x1 >>> (8 : Int32)) &&& 15) = 3)) := by rw [q] <;> decide
    have a4 : ¬ ((((x1 >>> (8 : Int32)) &&& 15) = 4) ∨ (((x1 >>> (8 : Int32)) &&& 15) = 5)) := by rw [q] <;> decide
    have a6 : ¬ ((((x1 >>> (8 : Int32)) &&& 15) = 6) ∨ (((x1 >>> (8 : Int32)) &&& 15) = 7)) := by rw [q] <;> decide
    have a8 : ¬ ((((((x1 >>> (8 : Int32)) &&& 15) = 8) ∨ (((x1 >>> (8 : Int32)) &&& 15) = 9)) ∨ (((x1 >>> (8 : Int32)) &&& 15) = 10)) ∨ (((x1 >>> (8 : Int32)) &&& 15) = 11)) := by rw [q] <;> decide
    have b0 : ¬ (((x1 >>> (9 : Int32)) &&& 7) = 0) := by rw [qm] <;> decide
    have b1 : ¬ (((x1 >>> (9 : Int32)) &&& 7) = 1) := by rw [qm] <;> decide
    have b2 : ¬ (((x1 >>> (9 : Int32)) &&& 7) = 2) := by rw [qm] <;> decide
    have b3 : ¬ (((x1 >>> (9 : Int32)) &&& 7) = 3) := by rw [qm] <;> decide
    have b4 : ¬ ((((x1 >>> (9 : Int32)) &&& 7) = 4) ∨ (((x1 >>> (9 : Int32)) &&& 7) = 5)) := by rw [qm] <;> decide
    simp only [if_neg a0, if_neg a4, if_neg a6, if_neg a8, if_neg b0, if_neg b1, if_neg b2, if_neg b3, if_neg b4]
    rw [product_eq, h.da _ (okjr_a31 _), h.da _ (okjr_or _ _)]
    exact ltS_P (R_x2_product h _ _) (fun s t h => RP_i rfl h)
  · have qv := nine_v q (c := 13) (by decide +kernel)
    have qm : (x1 >>> (9 : Int32)) &&& 7 = 6 := nine_m qv (d := 6) (by decide +kernel) (by decide)
    have a0 : ¬ ((((((x1 >>> (8 : Int32)) &&& 15) = 0) ∨ (((x1 >>> (8 : Int32)) &&& 15) = 1)) ∨ (((x1 >>> (8 : Int32)) &&& 15) = 2)) ∨ (((x1 >>> (8 : Int32)) &&& 15) = 3)) := by rw [q] <;> decide
    have a4 : ¬ ((((x1 >>> (8 : Int32)) &&& 15) = 4) ∨ (((x1 >>> (8 : Int32)) &&& 15) = 5)) := by rw [q] <;> decide
    have a6 : ¬ ((((x1 >>> (8 : Int32)) &&& 15) = 6) ∨ (((x1 >>> (8 : Int32)) &&& 15) = 7)) := by rw [q] <;> decide
    have a8 : ¬ ((((((x1 >>> (8 : Int32)) &&& 15) = 8) ∨ (((x1 >>> (8 : Int32)) &&& 15) = 9)) ∨ (((x1 >>> (8 : Int32)) &&& 15) = 10)) ∨ (((x1 >>> (8 : Int32)) &&& 15) = 11)) := by rw [q] <;> decide
    have b0 : ¬ (((x1 >>> (9 : Int32)) &&& 7) = 0) := by rw [qm] <;> decide
    have b1 : ¬ (((x1 >>> (9 : Int32)) &&& 7) = 1) := by rw [qm] <;> decide
    have b2 : ¬ (((x1 >>> (9 : Int32)) &&& 7) = 2) := by rw [qm] <;> decide
    have b3 : ¬ (((x1 >>> (9 : Int32)) &&& 7) = 3) := by rw [qm] <;> decide
    have b4 : ¬ ((((x1 >>> (9 : Int32)) &&& 7) = 4) ∨ (((x1 >>> (9 : Int32)) &&& 7) = 5)) := by rw [qm] <;> decide
    simp only [if_neg a0, if_neg a4, if_neg a6, if_neg a8, if_neg b0, if_neg b1, if_neg b2, if_neg b3, if_neg b4]
    rw [product_eq, h.da _ (okjr_a31 _), h.da _ (okjr_or _ _)]
    exact ltS_P (R_x2_product h _ _) (fun s t h => RP_i rfl h)
  · have qv := nine_v q (c := 14) (by decide +kernel)
    have qm : (x1 >>> (9 : Int32)) &&& 7 = 7 := nine_m qv (d := 7) (by decide +kernel) (by decide)
    have a0 : ¬ ((((((x1 >>> (8 : Int32)) &&& 15) = 0) ∨ (((x1 >>> (8 : Int32)) &&& 15) = 1)) ∨ (((x1 >>> (8 : Int32)) &&& 15) = 2)) ∨ (((x1 >>> (8 : Int32)) &&& 15) = 3)) := by rw [q] <;> decide
    have a4 : ¬ ((((x1 >>> (8 : Int32)) &&& 15) = 4) ∨ (((x1 >>> (8 : Int32)) &&& 15) = 5)) := by rw [q] <;> decide
    have a6 : ¬ ((((x1 >>> (8 : Int32)) &&& 15) = 6) ∨ (((x1 >>> (8 : Int32)) &&& 15) = 7)) := by rw [q] <;> decide
    have a8 : ¬ ((((((x1 >>> (8 : Int32)) &&& 15) = 8) ∨ (((x1 >>> (8 : Int32)) &&& 15) = 9)) ∨ (((x1 >>> (8 : Int32)) &&& 15) = 10)) ∨ (((x1 >>> (8 : Int32)) &&& 15) = 11)) := by rw [q] <;> decide
    have b0 : ¬ (((x1 >>> (9 : Int32)) &&& 7) = 0) := by rw [qm] <;> decide
    have b1 : ¬ (((x1 >>> (9 : Int32)) &&& 7) = 1) := by rw [qm] <;> decide
    have b2 : ¬ (((x1 >>> (9 : Int32)) &&& 7) = 2) := by rw [qm] <;> decide
    have b3 : ¬ (((x1 >>> (9 : Int32)) &&& 7) = 3) := by rw [qm] <;> decide
    have b4 : ¬ ((((x1 >>> (9 : Int32)) &&& 7) = 4) ∨ (((x1 >>> (9 : Int32)) &&& 7) = 5)) := by rw [qm] <;> decide
    simp only [if_neg a0, if_neg a4, if_neg a6, if_neg a8, if_neg b0, if_neg b1, if_neg b2, if_neg b3, if_neg b4]
    rw [product_eq, h.da _ (okjr_a31 _), h.da _ (okjr_or _ _)]
    exact ltS_P (R_x2_product h _ _) (fun s t h => RP_i rfl h)
  · have qv := nine_v q (c := 15) (by decide +kernel)
    have qm : (x1 >>> (9 : Int32)) &&& 7 = 7 := nine_m qv (d := 7) (by decide +kernel) (by decide)
    have a0 : ¬ ((((((x1 >>> (8 : Int32)) &&& 15) = 0) ∨ (((x1 >>> (8 : Int32)) &&& 15) = 1)) ∨ (((x1 >>> (8 : Int32)) &&& 15) = 2)) ∨ (((x1 >>> (8 : Int32)) &&& 15) = 3)) := by rw [q] <;> decide
    have a4 : ¬ ((((x1 >>> (8 : Int32)) &&& 15) = 4) ∨ (((x1 >>> (8 : Int32)) &&& 15) = 5)) := by rw [q] <;> decide
    have a6 : ¬ ((((x1 >>> (8 : Int32)) &&& 15) = 6) ∨ (((x1 >>> (8 : Int32)) &&& 15) = 7)) := by rw [q] <;> decide
    have a8 : ¬ ((((((x1 >>> (8 : Int32)) &&& 15) = 8) ∨ (((x1 >>> (8 : Int32)) &&& 15) = 9)) ∨ (((x1 >>> (8 : Int32)) &&& 15) = 10)) ∨ (((x1 >>> (8 : Int32)) &&& 15) = 11)) := by rw [q] <;> decide
    have b0 : ¬ (((x1 >>> (9 : Int32)) &&& 7) = 0) := by rw [qm] <;> decide
    have b1 : ¬ (((x1 >>> (9 : Int32)) &&& 7) = 1) := by rw [qm] <;> decide
    have b2 : ¬ (((x1 >>> (9 : Int32)) &&& 7) = 2) := by rw [qm] <;> decide
    have b3 : ¬ (((x1 >>> (9 : Int32)) &&& 7) = 3) := by rw [qm] <;> decide
    have b4 : ¬ ((((x1 >>> (9 : Int32)) &&& 7) = 4) ∨ (((x1 >>> (9 : Int32)) &&& 7) = 5)) := by rw [qm] <;> decide
    simp only [if_neg a0, if_neg a4, if_neg a6, if_neg a8, if_neg b0, if_neg b1, if_neg b2, if_neg b3, if_neg b4]
    rw [product_eq, h.da _ (okjr_a31 _), h.da _ (okjr_or _ _)]
    exact ltS_P (R_x2_product h _ _) (fun s t h => RP_i rfl h)
theorem sext12 : ∀ n : Fin 4096, (((nI n.val) <<< (20 : Int32)) >>> (20 : Int32)) = if nI n.val < 2048 then nI n.val else nI n.val - 4096 := by decide +kernel
theorem sext12i {x : Int32} (h : rg 0 4095 x) : ((x <<< (20 : Int32)) >>> (20 : Int32)) = if x < 2048 then x else x - 4096 := by
  obtain ⟨e, e2⟩ := rg_nI h
  have := h.2
  rw [e]; exact sext12 ⟨x.toNatClampNeg, by omega⟩
theorem ti2048 : (2048 : Int32).toInt = 2048 := by decide +kernel
theorem ti4096 : (4096 : Int32).toInt = 4096 := by decide +kernel
theorem rel_e {p x : Int32} (hp : rg 0 2047 p) (hx : rg 0 4095 x) : (p + ((x <<< (20 : Int32)) >>> (20 : Int32))) &&& 2047 = (p + x) &&& 2047 := by
  rw [sext12i hx, i_eq, and2047, and2047]
  have := hp.1; have := hp.2; have := hx.1; have := hx.2
  rw [toInt_add' (x := p) (y := x) (by omega) (by omega)]
  by_cases q : x < 2048
  · rw [if_pos q, toInt_add' (by omega) (by omega)]
  · rw [if_neg q]
    have e : (x - 4096).toInt = x.toInt - 4096 := by rw [toInt_sub' (by rw [ti4096]; omega) (by rw [ti4096]; omega), ti4096]
    rw [toInt_add' (by rw [e]; omega) (by rw [e]; omega), e]
    omega
theorem R_relative {b : Bool} {σ τ : Sg} (h : R b σ τ) (ok : XOK σ) (x : Int32) : RP b (lt ((if (x >>> (12 : Int32)) = 13 then lt (x2_pushPlace σ) fun s159 => s159 else σ) : Sg) fun z155 => lt (x2_go z155 ((z155 0 0) + (((x &&& 4095) <<< (20 : Int32)) >>> (20 : Int32)))) fun s179 => lt ((if (x >>> (12 : Int32)) = 13 then 3 else 2) : Int32) fun z188 => (z188, s179)) (m_relative τ x) := by
  unfold m_relative
  refine ltr_P ?_
  have h2 : R b (if (x >>> (12 : Int32)) = 13 then lt (x2_pushPlace σ) fun s159 => s159 else σ) (if (x >>> (12 : Int32)) = 13 then lt (m_pushPlace τ (τ 0 0)) fun s20 => s20 else τ) := by
    by_cases q : (x >>> (12 : Int32)) = 13
    · rw [if_pos q, if_pos q]; exact ltl_R (ltr_R (R_pushPlace h ok))
    · rw [if_neg q, if_neg q]; exact h
  have o2 : XOK (if (x >>> (12 : Int32)) = 13 then lt (x2_pushPlace σ) fun s159 => s159 else σ) := by
    by_cases q : (x >>> (12 : Int32)) = 13
    · rw [if_pos q]; exact ok_x2_pushPlace σ ok
    · rw [if_neg q]; exact ok
  revert h2 o2
  generalize (if (x >>> (12 : Int32)) = 13 then lt (x2_pushPlace σ) fun s159 => s159 else σ) = s
  generalize (if (x >>> (12 : Int32)) = 13 then lt (m_pushPlace τ (τ 0 0)) fun s20 => s20 else τ) = t
  intro h2 o2
  refine ltl_P (ltr_P ?_)
  have hx : rg 0 4095 (x &&& 4095) := rg_and_r (rg_w rl_4095 (by decide) (by decide))
  unfold x2_go
  rw [rel_e (xr0_0 o2) hx, ← h2.sc 0 rfl]
  refine ltl_P (ltr_P ?_)
  refine ltl_P (ltl_P (ltr_P ?_))
  exact RP_i rfl (R_pc h2 rfl)
theorem hi10 {w : Int32} {c : Int} (h : w.toInt / 4096 = c) (hc : c = 0 ∨ c = 1 ∨ c = 2) : (w >>> (10 : Int32)) < 12 := by
  rw [i_lt, shr10i, show (12 : Int32).toInt = 12 by decide +kernel]; omega
theorem hi10n {w : Int32} {c : Int} (h : w.toInt / 4096 = c) (hc : 3 ≤ c) : ¬ (w >>> (10 : Int32)) < 12 := by
  rw [i_lt, shr10i, show (12 : Int32).toInt = 12 by decide +kernel]; omega
theorem hi10z {w : Int32} {c : Int} (h : w.toInt / 4096 = c) (hc : 1 ≤ c) : ¬ (w >>> (10 : Int32)) = 0 := by
  rw [i_eq, shr10i, ti0]; omega
theorem hi12 {w a : Int32} {c : Int} (h : w >>> (12 : Int32) = a) (ha : a.toInt = c) : w.toInt / 4096 = c := by
  rw [i_eq, shr12i, ha] at h; exact h
theorem and_or_d (a b c : Int32) : a &&& (b ||| c) = (a &&& b) ||| (a &&& c) := by
  apply i32_ext
  intro i _
  rw [gl_and, gl_or, gl_or, gl_and, gl_and, Bool.and_or_distrib_left]
theorem disp {w : Int32} {c : Int} (h : w.toInt / 4096 = c) (h0 : 0 ≤ c) (h1 : c ≤ 15) : (w &&& 53248 = 32768) ↔ (c = 8 ∨ c = 10) := by
  have b15 := bit_int' w (f := 32768) 15 (by decide) (by decide +kernel)
  have b14 := bit_int' w (f := 16384) 14 (by decide) (by decide +kernel)
  have b12 := bit_int' w (f := 4096) 12 (by decide) (by decide +kernel)
  rw [show ((2 ^ 15 : Nat) : Int) = 32768 by decide] at b15
  rw [show ((2 ^ 14 : Nat) : Int) = 16384 by decide] at b14
  rw [show ((2 ^ 12 : Nat) : Int) = 4096 by decide] at b12
  have e : w &&& 53248 = ((w &&& 32768) ||| (w &&& 16384)) ||| (w &&& 4096) := by
    rw [← and_or_d, ← and_or_d]; rfl
  have f15 : (w &&& 32768 = 0 ∧ w.toInt / 32768 % 2 = 0) ∨ (w &&& 32768 = 32768 ∧ ¬ w.toInt / 32768 % 2 = 0) := by
    rcases and_pow w (f := 32768) 15 (by decide) (by decide +kernel) with q | q
    · exact Or.inl ⟨q, b15.mp q⟩
    · exact Or.inr ⟨q, fun z => absurd ((b15.mpr z).symm.trans q) (by decide)⟩
  have f14 : (w &&& 16384 = 0 ∧ w.toInt / 16384 % 2 = 0) ∨ (w &&& 16384 = 16384 ∧ ¬ w.toInt / 16384 % 2 = 0) := by
    rcases and_pow w (f := 16384) 14 (by decide) (by decide +kernel) with q | q
    · exact Or.inl ⟨q, b14.mp q⟩
    · exact Or.inr ⟨q, fun z => absurd ((b14.mpr z).symm.trans q) (by decide)⟩
  have f12 : (w &&& 4096 = 0 ∧ w.toInt / 4096 % 2 = 0) ∨ (w &&& 4096 = 4096 ∧ ¬ w.toInt / 4096 % 2 = 0) := by
    rcases and_pow w (f := 4096) 12 (by decide) (by decide +kernel) with q | q
    · exact Or.inl ⟨q, b12.mp q⟩
    · exact Or.inr ⟨q, fun z => absurd ((b12.mpr z).symm.trans q) (by decide)⟩
  rw [e]
  rcases f15 with ⟨p, p2⟩ | ⟨p, p2⟩ <;> rcases f14 with ⟨q, q2⟩ | ⟨q, q2⟩ <;> rcases f12 with ⟨r, r2⟩ | ⟨r, r2⟩ <;> rw [p, q, r]
  · exact ⟨fun z => absurd z (by decide), fun z => by exfalso; omega⟩
  · exact ⟨fun z => absurd z (by decide), fun z => by exfalso; omega⟩
  · exact ⟨fun z => absurd z (by decide), fun z => by exfalso; omega⟩
  · exact ⟨fun z => absurd z (by decide), fun z => by exfalso; omega⟩
  · exact ⟨fun _ => by omega, fun _ => by decide⟩
  · exact ⟨fun z => absurd z (by decide), fun z => by exfalso; omega⟩
  · exact ⟨fun z => absurd z (by decide), fun z => by exfalso; omega⟩
  · exact ⟨fun z => absurd z (by decide), fun z => by exfalso; omega⟩
theorem m_of0 (τ : Sg) {w : Int32} (hz : w >>> (10 : Int32) = 0) : m_ofTwo τ w = m_moves τ w := by
  unfold m_ofTwo
  refine lt_l ?_
  refine lt_l ?_
  refine lt_l ?_
  refine lt_l ?_
  refine lt_l ?_
  rw [if_pos hz]
  rfl
theorem lo10 {w : Int32} (hw : rg 0 65535 w) : (w < 1024) ↔ w >>> (10 : Int32) = 0 := by
  rw [i_lt, i_eq, shr10i, ti0, show (1024 : Int32).toInt = 1024 by decide +kernel]
  have := hw.1
  omega
theorem c16h {w : Int32} (hw : rg 0 65535 w) : rg 0 15 (w >>> (12 : Int32)) := by
  have e := shr12i w
  have := hw.1; have := hw.2
  exact ⟨by omega, by omega⟩

theorem R_core {b : Bool} {σ τ : Sg} (h : R b σ τ) (ok : XOK σ) (okt : XOK τ) (h6 : σ 0 6 = 0) (h7 : σ 0 7 = 0) {w p : Int32} (hw : rg 0 65535 w) (hp : p = τ 0 36) : RP b (if (w >>> (12 : Int32)) = 0 then lt ((if w < 1024 then lt (x2_pairs σ w) fun z101 => (z101.1, z101.2) else lt (x2_twoRegisters σ w) fun z109 => (z109.1, z109.2)) : Int32 × Sg) fun z96 => (z96.1, z96.2) else if ((w >>> (12 : Int32)) = 1) ∨ ((w >>> (12 : Int32)) = 2) then lt (x2_twoRegisters σ w) fun z115 => (z115.1, z115.2) else if ((w >>> (12 : Int32)) = 8) ∨ ((w >>> (12 : Int32)) = 10) then lt (x2_displaced σ w) fun z121 => (z121.1, z121.2) else if (w >>> (12 : Int32)) = 9 then lt ((if p < 1536 then 0 else 1) : Int32) fun z131 => lt (x2_nine σ w z131) fun z139 => (z139.1, z139.2) else if (w >>> (12 : Int32)) = 11 then lt (x2_ports σ w) fun z145 => (z145.1, z145.2) else if ((w >>> (12 : Int32)) = 12) ∨ ((w >>> (12 : Int32)) = 13) then lt ((if (w >>> (12 : Int32)) = 13 then lt (x2_pushPlace σ) fun s159 => s159 else σ) : Sg) fun z155 => lt (x2_go z155 ((z155 0 0) + (((w &&& 4095) <<< (20 : Int32)) >>> (20 : Int32)))) fun s179 => lt ((if (w >>> (12 : Int32)) = 13 then 3 else 2) : Int32) fun z188 => (z188, s179) else if (w >>> (12 : Int32)) = 15 then lt (x2_bits σ w) fun z199 => (z199.1, z199.2) else lt (x2_constant σ w) fun z205 => (z205.1, z205.2)) (if (w >>> (10 : Int32)) < 12 then lt (m_ofTwo τ w) fun z29 => (z29.1, z29.2) else if ((w >>> (12 : Int32)) < 8) ∨ ((w >>> (12 : Int32)) = 14) then lt (m_ofNumber τ w) fun z55 => (z55.1, z55.2) else if (w >>> (12 : Int32)) = 9 then lt (m_nines τ w) fun z72 => (z72.1, z72.2) else if (w &&& 53248) = 32768 then lt (m_displaced τ w) fun z91 => (z91.1, z91.2) else if (w >>> (12 : Int32)) = 11 then lt (m_ports τ w) fun z108 => (z108.1, z108.2) else if (w >>> (12 : Int32)) = 15 then lt (m_bits τ w) fun z125 => (z125.1, z125.2) else lt (m_relative τ w) fun z133 => (z133.1, z133.2)) := by
  rcases c16 (c16h hw) with q | q | q | q | q | q | q | q | q | q | q | q | q | q | q | q
  · have qv := hi12 q (c := 0) (by decide +kernel)
    have a0 : (w >>> (12 : Int32)) = 0 := by rw [q] <;> decide
    have a1 : ¬ (((w >>> (12 : Int32)) = 1) ∨ ((w >>> (12 : Int32)) = 2)) := by rw [q] <;> decide
    have a8 : ¬ (((w >>> (12 : Int32)) = 8) ∨ ((w >>> (12 : Int32)) = 10)) := by rw [q] <;> decide
    have a9 : ¬ ((w >>> (12 : Int32)) = 9) := by rw [q] <;> decide
    have a11 : ¬ ((w >>> (12 : Int32)) = 11) := by rw [q] <;> decide
    have a12 : ¬ (((w >>> (12 : Int32)) = 12) ∨ ((w >>> (12 : Int32)) = 13)) := by rw [q] <;> decide
    have a15 : ¬ ((w >>> (12 : Int32)) = 15) := by rw [q] <;> decide
    have b14 : ((w >>> (12 : Int32)) < 8) ∨ ((w >>> (12 : Int32)) = 14) := by rw [q] <;> decide
    have b10 := hi10 qv (by decide)
    have bd : ¬ (w &&& 53248 = 32768) := fun z => absurd ((disp qv (by decide) (by decide)).mp z) (by decide)
    simp only [if_pos a0, if_neg a1, if_neg a8, if_neg a9, if_neg a11, if_neg a12, if_neg a15, if_pos b14, if_pos b10, if_neg bd]
    by_cases z : w < 1024
    · rw [if_pos z, m_of0 τ ((lo10 hw).mp z), moves_eq τ okt (x1 := w) ⟨hw.1, by have := i_lt.mp z; rw [show (1024 : Int32).toInt = 1024 by decide +kernel] at this; omega⟩]
      exact ltP_P (R_x2_pairs h w) (fun v s t h => RP_i rfl h)
    · rw [if_neg z, twoRegisters_eq τ okt (x1 := w) (fun y => z ((lo10 hw).mpr y))]
      exact ltP_P (R_x2_twoRegisters h w) (fun v s t h => RP_i rfl h)
  · have qv := hi12 q (c := 1) (by decide +kernel)
    have a0 : ¬ ((w >>> (12 : Int32)) = 0) := by rw [q] <;> decide
    have a1 : ((w >>> (12 : Int32)) = 1) ∨ ((w >>> (12 : Int32)) = 2) := by rw [q] <;> decide
    have a8 : ¬ (((w >>> (12 : Int32)) = 8) ∨ ((w >>> (12 : Int32)) = 10)) := by rw [q] <;> decide
    have a9 : ¬ ((w >>> (12 : Int32)) = 9) := by rw [q] <;> decide
    have a11 : ¬ ((w >>> (12 : Int32)) = 11) := by rw [q] <;> decide
    have a12 : ¬ (((w >>> (12 : Int32)) = 12) ∨ ((w >>> (12 : Int32)) = 13)) := by rw [q] <;> decide
    have a15 : ¬ ((w >>> (12 : Int32)) = 15) := by rw [q] <;> decide
    have b14 : ((w >>> (12 : Int32)) < 8) ∨ ((w >>> (12 : Int32)) = 14) := by rw [q] <;> decide
    have b10 := hi10 qv (by decide)
    have bd : ¬ (w &&& 53248 = 32768) := fun z => absurd ((disp qv (by decide) (by decide)).mp z) (by decide)
    simp only [if_neg a0, if_pos a1, if_neg a8, if_neg a9, if_neg a11, if_neg a12, if_neg a15, if_pos b14, if_pos b10, if_neg bd]
    rw [twoRegisters_eq τ okt (x1 := w) (hi10z qv (by decide))]
    exact ltP_P (R_x2_twoRegisters h w) (fun v s t h => RP_i rfl h)
  · have qv := hi12 q (c := 2) (by decide +kernel)
    have a0 : ¬ ((w >>> (12 : Int32)) = 0) := by rw [q] <;> decide
    have a1 : ((w >>> (12 : Int32)) = 1) ∨ ((w >>> (12 : Int32)) = 2) := by rw [q] <;> decide
    have a8 : ¬ (((w >>> (12 : Int32)) = 8) ∨ ((w >>> (12 : Int32)) = 10)) := by rw [q] <;> decide
    have a9 : ¬ ((w >>> (12 : Int32)) = 9) := by rw [q] <;> decide
    have a11 : ¬ ((w >>> (12 : Int32)) = 11) := by rw [q] <;> decide
    have a12 : ¬ (((w >>> (12 : Int32)) = 12) ∨ ((w >>> (12 : Int32)) = 13)) := by rw [q] <;> decide
    have a15 : ¬ ((w >>> (12 : Int32)) = 15) := by rw [q] <;> decide
    have b14 : ((w >>> (12 : Int32)) < 8) ∨ ((w >>> (12 : Int32)) = 14) := by rw [q] <;> decide
    have b10 := hi10 qv (by decide)
    have bd : ¬ (w &&& 53248 = 32768) := fun z => absurd ((disp qv (by decide) (by decide)).mp z) (by decide)
    simp only [if_neg a0, if_pos a1, if_neg a8, if_neg a9, if_neg a11, if_neg a12, if_neg a15, if_pos b14, if_pos b10, if_neg bd]
    rw [twoRegisters_eq τ okt (x1 := w) (hi10z qv (by decide))]
    exact ltP_P (R_x2_twoRegisters h w) (fun v s t h => RP_i rfl h)
  · have qv := hi12 q (c := 3) (by decide +kernel)
    have a0 : ¬ ((w >>> (12 : Int32)) = 0) := by rw [q] <;> decide
    have a1 : ¬ (((w >>> (12 : Int32)) = 1) ∨ ((w >>> (12 : Int32)) = 2)) := by rw [q] <;> decide
    have a8 : ¬ (((w >>> (12 : Int32)) = 8) ∨ ((w >>> (12 : Int32)) = 10)) := by rw [q] <;> decide
    have a9 : ¬ ((w >>> (12 : Int32)) = 9) := by rw [q] <;> decide
    have a11 : ¬ ((w >>> (12 : Int32)) = 11) := by rw [q] <;> decide
    have a12 : ¬ (((w >>> (12 : Int32)) = 12) ∨ ((w >>> (12 : Int32)) = 13)) := by rw [q] <;> decide
    have a15 : ¬ ((w >>> (12 : Int32)) = 15) := by rw [q] <;> decide
    have b14 : ((w >>> (12 : Int32)) < 8) ∨ ((w >>> (12 : Int32)) = 14) := by rw [q] <;> decide
    have b10 := hi10n qv (by decide)
    have bd : ¬ (w &&& 53248 = 32768) := fun z => absurd ((disp qv (by decide) (by decide)).mp z) (by decide)
    simp only [if_neg a0, if_neg a1, if_neg a8, if_neg a9, if_neg a11, if_neg a12, if_neg a15, if_pos b14, if_neg b10, if_neg bd]
    rw [constant_eq τ okt w]
    exact ltP_P (R_x2_constant h w) (fun v s t h => RP_i rfl h)
  · have qv := hi12 q (c := 4) (by decide +kernel)
    have a0 : ¬ ((w >>> (12 : Int32)) = 0) := by rw [q] <;> decide
    have a1 : ¬ (((w >>> (12 : Int32)) = 1) ∨ ((w >>> (12 : Int32)) = 2)) := by rw [q] <;> decide
    have a8 : ¬ (((w >>> (12 : Int32)) = 8) ∨ ((w >>> (12 : Int32)) = 10)) := by rw [q] <;> decide
    have a9 : ¬ ((w >>> (12 : Int32)) = 9) := by rw [q] <;> decide
    have a11 : ¬ ((w >>> (12 : Int32)) = 11) := by rw [q] <;> decide
    have a12 : ¬ (((w >>> (12 : Int32)) = 12) ∨ ((w >>> (12 : Int32)) = 13)) := by rw [q] <;> decide
    have a15 : ¬ ((w >>> (12 : Int32)) = 15) := by rw [q] <;> decide
    have b14 : ((w >>> (12 : Int32)) < 8) ∨ ((w >>> (12 : Int32)) = 14) := by rw [q] <;> decide
    have b10 := hi10n qv (by decide)
    have bd : ¬ (w &&& 53248 = 32768) := fun z => absurd ((disp qv (by decide) (by decide)).mp z) (by decide)
    simp only [if_neg a0, if_neg a1, if_neg a8, if_neg a9, if_neg a11, if_neg a12, if_neg a15, if_pos b14, if_neg b10, if_neg bd]
    rw [constant_eq τ okt w]
    exact ltP_P (R_x2_constant h w) (fun v s t h => RP_i rfl h)
  · have qv := hi12 q (c := 5) (by decide +kernel)
    have a0 : ¬ ((w >>> (12 : Int32)) = 0) := by rw [q] <;> decide
    have a1 : ¬ (((w >>> (12 : Int32)) = 1) ∨ ((w >>> (12 : Int32)) = 2)) := by rw [q] <;> decide
    have a8 : ¬ (((w >>> (12 : Int32)) = 8) ∨ ((w >>> (12 : Int32)) = 10)) := by rw [q] <;> decide
    have a9 : ¬ ((w >>> (12 : Int32)) = 9) := by rw [q] <;> decide
    have a11 : ¬ ((w >>> (12 : Int32)) = 11) := by rw [q] <;> decide
    have a12 : ¬ (((w >>> (12 : Int32)) = 12) ∨ ((w >>> (12 : Int32)) = 13)) := by rw [q] <;> decide
    have a15 : ¬ ((w >>> (12 : Int32)) = 15) := by rw [q] <;> decide
    have b14 : ((w >>> (12 : Int32)) < 8) ∨ ((w >>> (12 : Int32)) = 14) := by rw [q] <;> decide
    have b10 := hi10n qv (by decide)
    have bd : ¬ (w &&& 53248 = 32768) := fun z => absurd ((disp qv (by decide) (by decide)).mp z) (by decide)
    simp only [if_neg a0, if_neg a1, if_neg a8, if_neg a9, if_neg a11, if_neg a12, if_neg a15, if_pos b14, if_neg b10, if_neg bd]
    rw [constant_eq τ okt w]
    exact ltP_P (R_x2_constant h w) (fun v s t h => RP_i rfl h)
  · have qv := hi12 q (c := 6) (by decide +kernel)
    have a0 : ¬ ((w >>> (12 : Int32)) = 0) := by rw [q] <;> decide
    have a1 : ¬ (((w >>> (12 : Int32)) = 1) ∨ ((w >>> (12 : Int32)) = 2)) := by rw [q] <;> decide
    have a8 : ¬ (((w >>> (12 : Int32)) = 8) ∨ ((w >>> (12 : Int32)) = 10)) := by rw [q] <;> decide
    have a9 : ¬ ((w >>> (12 : Int32)) = 9) := by rw [q] <;> decide
    have a11 : ¬ ((w >>> (12 : Int32)) = 11) := by rw [q] <;> decide
    have a12 : ¬ (((w >>> (12 : Int32)) = 12) ∨ ((w >>> (12 : Int32)) = 13)) := by rw [q] <;> decide
    have a15 : ¬ ((w >>> (12 : Int32)) = 15) := by rw [q] <;> decide
    have b14 : ((w >>> (12 : Int32)) < 8) ∨ ((w >>> (12 : Int32)) = 14) := by rw [q] <;> decide
    have b10 := hi10n qv (by decide)
    have bd : ¬ (w &&& 53248 = 32768) := fun z => absurd ((disp qv (by decide) (by decide)).mp z) (by decide)
    simp only [if_neg a0, if_neg a1, if_neg a8, if_neg a9, if_neg a11, if_neg a12, if_neg a15, if_pos b14, if_neg b10, if_neg bd]
    rw [constant_eq τ okt w]
    exact ltP_P (R_x2_constant h w) (fun v s t h => RP_i rfl h)
  · have qv := hi12 q (c := 7) (by decide +kernel)
    have a0 : ¬ ((w >>> (12 : Int32)) = 0) := by rw [q] <;> decide
    have a1 : ¬ (((w >>> (12 : Int32)) = 1) ∨ ((w >>> (12 : Int32)) = 2)) := by rw [q] <;> decide
    have a8 : ¬ (((w >>> (12 : Int32)) = 8) ∨ ((w >>> (12 : Int32)) = 10)) := by rw [q] <;> decide
    have a9 : ¬ ((w >>> (12 : Int32)) = 9) := by rw [q] <;> decide
    have a11 : ¬ ((w >>> (12 : Int32)) = 11) := by rw [q] <;> decide
    have a12 : ¬ (((w >>> (12 : Int32)) = 12) ∨ ((w >>> (12 : Int32)) = 13)) := by rw [q] <;> decide
    have a15 : ¬ ((w >>> (12 : Int32)) = 15) := by rw [q] <;> decide
    have b14 : ((w >>> (12 : Int32)) < 8) ∨ ((w >>> (12 : Int32)) = 14) := by rw [q] <;> decide
    have b10 := hi10n qv (by decide)
    have bd : ¬ (w &&& 53248 = 32768) := fun z => absurd ((disp qv (by decide) (by decide)).mp z) (by decide)
    simp only [if_neg a0, if_neg a1, if_neg a8, if_neg a9, if_neg a11, if_neg a12, if_neg a15, if_pos b14, if_neg b10, if_neg bd]
    rw [constant_eq τ okt w]
    exact ltP_P (R_x2_constant h w) (fun v s t h => RP_i rfl h)
  · have qv := hi12 q (c := 8) (by decide +kernel)
    have a0 : ¬ ((w >>> (12 : Int32)) = 0) := by rw [q] <;> decide
    have a1 : ¬ (((w >>> (12 : Int32)) = 1) ∨ ((w >>> (12 : Int32)) = 2)) := by rw [q] <;> decide
    have a8 : ((w >>> (12 : Int32)) = 8) ∨ ((w >>> (12 : Int32)) = 10) := by rw [q] <;> decide
    have a9 : ¬ ((w >>> (12 : Int32)) = 9) := by rw [q] <;> decide
    have a11 : ¬ ((w >>> (12 : Int32)) = 11) := by rw [q] <;> decide
    have a12 : ¬ (((w >>> (12 : Int32)) = 12) ∨ ((w >>> (12 : Int32)) = 13)) := by rw [q] <;> decide
    have a15 : ¬ ((w >>> (12 : Int32)) = 15) := by rw [q] <;> decide
    have b14 : ¬ (((w >>> (12 : Int32)) < 8) ∨ ((w >>> (12 : Int32)) = 14)) := by rw [q] <;> decide
    have b10 := hi10n qv (by decide)
    have bd := (disp qv (by decide) (by decide)).mpr (by decide)
    simp only [if_neg a0, if_neg a1, if_pos a8, if_neg a9, if_neg a11, if_neg a12, if_neg a15, if_neg b14, if_neg b10, if_pos bd]
    exact ltP_P (R_displaced h ok w) (fun v s t h => RP_i rfl h)
  · have qv := hi12 q (c := 9) (by decide +kernel)
    have a0 : ¬ ((w >>> (12 : Int32)) = 0) := by rw [q] <;> decide
    have a1 : ¬ (((w >>> (12 : Int32)) = 1) ∨ ((w >>> (12 : Int32)) = 2)) := by rw [q] <;> decide
    have a8 : ¬ (((w >>> (12 : Int32)) = 8) ∨ ((w >>> (12 : Int32)) = 10)) := by rw [q] <;> decide
    have a9 : (w >>> (12 : Int32)) = 9 := by rw [q] <;> decide
    have a11 : ¬ ((w >>> (12 : Int32)) = 11) := by rw [q] <;> decide
    have a12 : ¬ (((w >>> (12 : Int32)) = 12) ∨ ((w >>> (12 : Int32)) = 13)) := by rw [q] <;> decide
    have a15 : ¬ ((w >>> (12 : Int32)) = 15) := by rw [q] <;> decide
    have b14 : ¬ (((w >>> (12 : Int32)) < 8) ∨ ((w >>> (12 : Int32)) = 14)) := by rw [q] <;> decide
    have b10 := hi10n qv (by decide)
    have bd : ¬ (w &&& 53248 = 32768) := fun z => absurd ((disp qv (by decide) (by decide)).mp z) (by decide)
    simp only [if_neg a0, if_neg a1, if_neg a8, if_pos a9, if_neg a11, if_neg a12, if_neg a15, if_neg b14, if_neg b10, if_neg bd]
    refine ltl_P ?_
    exact ltP_P (R_nine h ok okt h6 h7 w (by rw [hp])) (fun v s t h => RP_i rfl h)
  · have qv := hi12 q (c := 10) (by decide +kernel)
    have a0 : ¬ ((w >>> (12 : Int32)) = 0) := by rw [q] <;> decide
    have a1 : ¬ (((w >>> (12 : Int32)) = 1) ∨ ((w >>> (12 : Int32)) = 2)) := by rw [q] <;> decide
    have a8 : ((w >>> (12 : Int32)) = 8) ∨ ((w >>> (12 : Int32)) = 10) := by rw [q] <;> decide
    have a9 : ¬ ((w >>> (12 : Int32)) = 9) := by rw [q] <;> decide
    have a11 : ¬ ((w >>> (12 : Int32)) = 11) := by rw [q] <;> decide
    have a12 : ¬ (((w >>> (12 : Int32)) = 12) ∨ ((w >>> (12 : Int32)) = 13)) := by rw [q] <;> decide
    have a15 : ¬ ((w >>> (12 : Int32)) = 15) := by rw [q] <;> decide
    have b14 : ¬ (((w >>> (12 : Int32)) < 8) ∨ ((w >>> (12 : Int32)) = 14)) := by rw [q] <;> decide
    have b10 := hi10n qv (by decide)
    have bd := (disp qv (by decide) (by decide)).mpr (by decide)
    simp only [if_neg a0, if_neg a1, if_pos a8, if_neg a9, if_neg a11, if_neg a12, if_neg a15, if_neg b14, if_neg b10, if_pos bd]
    exact ltP_P (R_displaced h ok w) (fun v s t h => RP_i rfl h)
  · have qv := hi12 q (c := 11) (by decide +kernel)
    have a0 : ¬ ((w >>> (12 : Int32)) = 0) := by rw [q] <;> decide
    have a1 : ¬ (((w >>> (12 : Int32)) = 1) ∨ ((w >>> (12 : Int32)) = 2)) := by rw [q] <;> decide
    have a8 : ¬ (((w >>> (12 : Int32)) = 8) ∨ ((w >>> (12 : Int32)) = 10)) := by rw [q] <;> decide
    have a9 : ¬ ((w >>> (12 : Int32)) = 9) := by rw [q] <;> decide
    have a11 : (w >>> (12 : Int32)) = 11 := by rw [q] <;> decide
    have a12 : ¬ (((w >>> (12 : Int32)) = 12) ∨ ((w >>> (12 : Int32)) = 13)) := by rw [q] <;> decide
    have a15 : ¬ ((w >>> (12 : Int32)) = 15) := by rw [q] <;> decide
    have b14 : ¬ (((w >>> (12 : Int32)) < 8) ∨ ((w >>> (12 : Int32)) = 14)) := by rw [q] <;> decide
    have b10 := hi10n qv (by decide)
    have bd : ¬ (w &&& 53248 = 32768) := fun z => absurd ((disp qv (by decide) (by decide)).mp z) (by decide)
    simp only [if_neg a0, if_neg a1, if_neg a8, if_neg a9, if_pos a11, if_neg a12, if_neg a15, if_neg b14, if_neg b10, if_neg bd]
    exact ltP_P (R_ports h ok w) (fun v s t h => RP_i rfl h)
  · have qv := hi12 q (c := 12) (by decide +kernel)
    have a0 : ¬ ((w >>> (12 : Int32)) = 0) := by rw [q] <;> decide
    have a1 : ¬ (((w >>> (12 : Int32)) = 1) ∨ ((w >>> (12 : Int32)) = 2)) := by rw [q] <;> decide
    have a8 : ¬ (((w >>> (12 : Int32)) = 8) ∨ ((w >>> (12 : Int32)) = 10)) := by rw [q] <;> decide
    have a9 : ¬ ((w >>> (12 : Int32)) = 9) := by rw [q] <;> decide
    have a11 : ¬ ((w >>> (12 : Int32)) = 11) := by rw [q] <;> decide
    have a12 : ((w >>> (12 : Int32)) = 12) ∨ ((w >>> (12 : Int32)) = 13) := by rw [q] <;> decide
    have a15 : ¬ ((w >>> (12 : Int32)) = 15) := by rw [q] <;> decide
    have b14 : ¬ (((w >>> (12 : Int32)) < 8) ∨ ((w >>> (12 : Int32)) = 14)) := by rw [q] <;> decide
    have b10 := hi10n qv (by decide)
    have bd : ¬ (w &&& 53248 = 32768) := fun z => absurd ((disp qv (by decide) (by decide)).mp z) (by decide)
    simp only [if_neg a0, if_neg a1, if_neg a8, if_neg a9, if_neg a11, if_pos a12, if_neg a15, if_neg b14, if_neg b10, if_neg bd]
    have hr := R_relative h ok w
    revert hr
    generalize m_relative τ w = y
    intro hr
    exact hr
  · have qv := hi12 q (c := 13) (by decide +kernel)
    have a0 : ¬ ((w >>> (12 : Int32)) = 0) := by rw [q] <;> decide
    have a1 : ¬ (((w >>> (12 : Int32)) = 1) ∨ ((w >>> (12 : Int32)) = 2)) := by rw [q] <;> decide
    have a8 : ¬ (((w >>> (12 : Int32)) = 8) ∨ ((w >>> (12 : Int32)) = 10)) := by rw [q] <;> decide
    have a9 : ¬ ((w >>> (12 : Int32)) = 9) := by rw [q] <;> decide
    have a11 : ¬ ((w >>> (12 : Int32)) = 11) := by rw [q] <;> decide
    have a12 : ((w >>> (12 : Int32)) = 12) ∨ ((w >>> (12 : Int32)) = 13) := by rw [q] <;> decide
    have a15 : ¬ ((w >>> (12 : Int32)) = 15) := by rw [q] <;> decide
    have b14 : ¬ (((w >>> (12 : Int32)) < 8) ∨ ((w >>> (12 : Int32)) = 14)) := by rw [q] <;> decide
    have b10 := hi10n qv (by decide)
    have bd : ¬ (w &&& 53248 = 32768) := fun z => absurd ((disp qv (by decide) (by decide)).mp z) (by decide)
    simp only [if_neg a0, if_neg a1, if_neg a8, if_neg a9, if_neg a11, if_pos a12, if_neg a15, if_neg b14, if_neg b10, if_neg bd]
    have hr := R_relative h ok w
    revert hr
    generalize m_relative τ w = y
    intro hr
    exact hr
  · have qv := hi12 q (c := 14) (by decide +kernel)
    have a0 : ¬ ((w >>> (12 : Int32)) = 0) := by rw [q] <;> decide
    have a1 : ¬ (((w >>> (12 : Int32)) = 1) ∨ ((w >>> (12 : Int32)) = 2)) := by rw [q] <;> decide
    have a8 : ¬ (((w >>> (12 : Int32)) = 8) ∨ ((w >>> (12 : Int32)) = 10)) := by rw [q] <;> decide
    have a9 : ¬ ((w >>> (12 : Int32)) = 9) := by rw [q] <;> decide
    have a11 : ¬ ((w >>> (12 : Int32)) = 11) := by rw [q] <;> decide
    have a12 : ¬ (((w >>> (12 : Int32)) = 12) ∨ ((w >>> (12 : Int32)) = 13)) := by rw [q] <;> decide
    have a15 : ¬ ((w >>> (12 : Int32)) = 15) := by rw [q] <;> decide
    have b14 : ((w >>> (12 : Int32)) < 8) ∨ ((w >>> (12 : Int32)) = 14) := by rw [q] <;> decide
    have b10 := hi10n qv (by decide)
    have bd : ¬ (w &&& 53248 = 32768) := fun z => absurd ((disp qv (by decide) (by decide)).mp z) (by decide)
    simp only [if_neg a0, if_neg a1, if_neg a8, if_neg a9, if_neg a11, if_neg a12, if_neg a15, if_pos b14, if_neg b10, if_neg bd]
    rw [constant_eq τ okt w]
    exact ltP_P (R_x2_constant h w) (fun v s t h => RP_i rfl h)
  · have qv := hi12 q (c := 15) (by decide +kernel)
    have a0 : ¬ ((w >>> (12 : Int32)) = 0) := by rw [q] <;> decide
    have a1 : ¬ (((w >>> (12 : Int32)) = 1) ∨ ((w >>> (12 : Int32)) = 2)) := by rw [q] <;> decide
    have a8 : ¬ (((w >>> (12 : Int32)) = 8) ∨ ((w >>> (12 : Int32)) = 10)) := by rw [q] <;> decide
    have a9 : ¬ ((w >>> (12 : Int32)) = 9) := by rw [q] <;> decide
    have a11 : ¬ ((w >>> (12 : Int32)) = 11) := by rw [q] <;> decide
    have a12 : ¬ (((w >>> (12 : Int32)) = 12) ∨ ((w >>> (12 : Int32)) = 13)) := by rw [q] <;> decide
    have a15 : (w >>> (12 : Int32)) = 15 := by rw [q] <;> decide
    have b14 : ¬ (((w >>> (12 : Int32)) < 8) ∨ ((w >>> (12 : Int32)) = 14)) := by rw [q] <;> decide
    have b10 := hi10n qv (by decide)
    have bd : ¬ (w &&& 53248 = 32768) := fun z => absurd ((disp qv (by decide) (by decide)).mp z) (by decide)
    simp only [if_neg a0, if_neg a1, if_neg a8, if_neg a9, if_neg a11, if_neg a12, if_pos a15, if_neg b14, if_neg b10, if_neg bd]
    rw [bits_eq τ okt w]
    exact ltP_P (R_x2_bits h w) (fun v s t h => RP_i rfl h)
theorem R_instruction {b : Bool} {σ τ : Sg} (h : R b σ τ) (ok : XOK σ) (okt : XOK τ) (h6 : σ 0 6 = 0) (h7 : σ 0 7 = 0) (h1 : σ 0 1 = 0) : (x2_instruction σ).1 + (x2_instruction σ).2 0 1 = (m_instruction τ).1 ∧ R true (x2_instruction σ).2 (m_instruction τ).2 := by
  have h2 : R true σ (sst (sst τ 0 36 (τ 0 0)) 0 1 0) := by
    have q := R_more0 (b' := true) (R_own h (j := 36) (τ 0 0) (by decide)) 0
    have e : sst σ 0 1 0 = σ := by
      have := sst_id σ 0 1
      rw [h1] at this; exact this
    rw [e] at q; exact q
  have okt2 : XOK (sst (sst τ 0 36 (τ 0 0)) 0 1 0) := xst_f0_1 (xst_0_36 okt (xr0_0 okt))
  have h36 : σ 0 0 = (sst (sst τ 0 36 (τ 0 0)) 0 1 0) 0 36 := h.sc 0 rfl
  have key : ∀ (T : Sg), R true σ T → XOK T → σ 0 0 = T 0 36 → RP true (x2_instruction σ) (lt (m_next T) fun z14 => (if (z14.1 >>> (10 : Int32)) < 12 then lt (m_ofTwo z14.2 z14.1) fun z29 => (z29.1, z29.2) else if ((z14.1 >>> (12 : Int32)) < 8) ∨ ((z14.1 >>> (12 : Int32)) = 14) then lt (m_ofNumber z14.2 z14.1) fun z55 => (z55.1, z55.2) else if (z14.1 >>> (12 : Int32)) = 9 then lt (m_nines z14.2 z14.1) fun z72 => (z72.1, z72.2) else if (z14.1 &&& 53248) = 32768 then lt (m_displaced z14.2 z14.1) fun z91 => (z91.1, z91.2) else if (z14.1 >>> (12 : Int32)) = 11 then lt (m_ports z14.2 z14.1) fun z108 => (z108.1, z108.2) else if (z14.1 >>> (12 : Int32)) = 15 then lt (m_bits z14.2 z14.1) fun z125 => (z125.1, z125.2) else lt (m_relative z14.2 z14.1) fun z133 => (z133.1, z133.2))) := by
    intro T h okt hp
    unfold x2_instruction
    have hn := R_next h okt
    have o1 := ok_x2_next σ ok
    have o2 := ok_m_next T okt
    have e6 : (x2_next σ).2 0 6 = 0 := h6
    have e7 : (x2_next σ).2 0 7 = 0 := h7
    have e36 : σ 0 0 = (m_next T).2 0 36 := hp
    refine ltl_P ?_
    revert hn o1 o2 e6 e7 e36
    generalize σ 0 0 = p
    generalize x2_next σ = y
    generalize m_next T = y2
    obtain ⟨w, s⟩ := y
    obtain ⟨w2, t⟩ := y2
    rintro ⟨e, hn⟩ o1 o2 e6 e7 e36
    have e : w = w2 := e
    subst e
    exact R_core hn o1.1 o2.1 e6 e7 o1.2 e36
  have k2 := key _ h2 okt2 h36
  have e : m_instruction τ = lt (lt (m_next (sst (sst τ 0 36 (τ 0 0)) 0 1 0)) fun z14 => (if (z14.1 >>> (10 : Int32)) < 12 then lt (m_ofTwo z14.2 z14.1) fun z29 => (z29.1, z29.2) else if ((z14.1 >>> (12 : Int32)) < 8) ∨ ((z14.1 >>> (12 : Int32)) = 14) then lt (m_ofNumber z14.2 z14.1) fun z55 => (z55.1, z55.2) else if (z14.1 >>> (12 : Int32)) = 9 then lt (m_nines z14.2 z14.1) fun z72 => (z72.1, z72.2) else if (z14.1 &&& 53248) = 32768 then lt (m_displaced z14.2 z14.1) fun z91 => (z91.1, z91.2) else if (z14.1 >>> (12 : Int32)) = 11 then lt (m_ports z14.2 z14.1) fun z108 => (z108.1, z108.2) else if (z14.1 >>> (12 : Int32)) = 15 then lt (m_bits z14.2 z14.1) fun z125 => (z125.1, z125.2) else lt (m_relative z14.2 z14.1) fun z133 => (z133.1, z133.2))) fun z24 => ((z24.1 + (z24.2 0 1)), z24.2) := rfl
  rw [e]
  revert k2
  generalize (lt (m_next (sst (sst τ 0 36 (τ 0 0)) 0 1 0)) fun z14 => (if (z14.1 >>> (10 : Int32)) < 12 then lt (m_ofTwo z14.2 z14.1) fun z29 => (z29.1, z29.2) else if ((z14.1 >>> (12 : Int32)) < 8) ∨ ((z14.1 >>> (12 : Int32)) = 14) then lt (m_ofNumber z14.2 z14.1) fun z55 => (z55.1, z55.2) else if (z14.1 >>> (12 : Int32)) = 9 then lt (m_nines z14.2 z14.1) fun z72 => (z72.1, z72.2) else if (z14.1 &&& 53248) = 32768 then lt (m_displaced z14.2 z14.1) fun z91 => (z91.1, z91.2) else if (z14.1 >>> (12 : Int32)) = 11 then lt (m_ports z14.2 z14.1) fun z108 => (z108.1, z108.2) else if (z14.1 >>> (12 : Int32)) = 15 then lt (m_bits z14.2 z14.1) fun z125 => (z125.1, z125.2) else lt (m_relative z14.2 z14.1) fun z133 => (z133.1, z133.2))) = y
  intro k2
  rw [lt_g y]
  refine ⟨?_, k2.2⟩
  rw [k2.1, k2.2.mo rfl]
