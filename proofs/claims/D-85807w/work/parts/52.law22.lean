/-! PLAIN LAW 22: loads and stores through pointers -/
set_option maxRecDepth 100000
theorem c16 {v : Int32} (h : rg 0 15 v) : v = 0 ∨ v = 1 ∨ v = 2 ∨ v = 3 ∨ v = 4 ∨ v = 5 ∨ v = 6 ∨ v = 7 ∨ v = 8 ∨ v = 9 ∨ v = 10 ∨ v = 11 ∨ v = 12 ∨ v = 13 ∨ v = 14 ∨ v = 15 := by
  obtain ⟨e, e2⟩ := rg_nI h
  have h2 := h.2
  have : v.toNatClampNeg = 0 ∨ v.toNatClampNeg = 1 ∨ v.toNatClampNeg = 2 ∨ v.toNatClampNeg = 3 ∨ v.toNatClampNeg = 4 ∨ v.toNatClampNeg = 5 ∨ v.toNatClampNeg = 6 ∨ v.toNatClampNeg = 7 ∨ v.toNatClampNeg = 8 ∨ v.toNatClampNeg = 9 ∨ v.toNatClampNeg = 10 ∨ v.toNatClampNeg = 11 ∨ v.toNatClampNeg = 12 ∨ v.toNatClampNeg = 13 ∨ v.toNatClampNeg = 14 ∨ v.toNatClampNeg = 15 := by omega
  rcases this with q | q | q | q | q | q | q | q | q | q | q | q | q | q | q | q <;> rw [q] at e <;> rw [e] <;> decide
theorem rg15 (x : Int32) : rg 0 15 (x &&& 15) := rg_and_r (rg_w rl_15 (by decide) (by decide))
def xAt (s : Sg) (a : Int32) (n : Nat) (z w : Int32) : Sg := if z = 0 then lt (x2_load s a) fun z231 => lt (sst z231.2 1 n z231.1) fun s234 => s234 else lt (x2_store s a w) fun s216 => s216
def mAt (t : Sg) (a : Int32) (n : Nat) (z w : Int32) : Sg := if z = 0 then lt (m_load t a) fun y => lt (sst y.2 1 n y.1) fun s => s else lt (m_store t a w) fun s => s
theorem R_at {b : Bool} {s t : Sg} (h : R b s t) (ok : XOK s) {a v : Int32} (ha : rg 0 65535 a) (hv : rg 0 255 v) {n : Nat} (hn : regish n = true) (z : Int32) : R b (xAt s a n z v) (mAt t a n z v) := by
  unfold xAt mAt
  refine ite_R (fun _ => ?_) (fun _ => ?_)
  · refine ltP_R (R_load h ha) (fun v s t h => ?_)
    exact ltS_R (R_reg h rfl hn) (fun s t h => h)
  · exact ltS_R (R_store h ok ha hv) (fun s t h => h)
def mPl (y : Int32 × Sg) (n : Nat) (z w : Int32) : Int32 × Sg := if y.1 = (-1) then (1, y.2) else (2, mAt y.2 y.1 n z w)
theorem mPl_at {a : Int32} {T : Sg} (n : Nat) (z w : Int32) (hn : ¬ a < 0) : mPl (a, T) n z w = (2, mAt T a n z w) := by
  show (if a = (-1) then _ else _) = _
  rw [if_neg (by intro q; rw [q] at hn; exact hn (by decide))]
theorem mPl_no (T : Sg) (n : Nat) (z w : Int32) : mPl (-1, T) n z w = (1, T) := if_pos rfl
theorem ml_eq (τ : Sg) {x1 : Int32} (h1 : ¬ (((x1 &&& 15) = 4) ∨ ((x1 &&& 15) = 5))) (h2 : ¬ (x1 &&& 15) = 15) (w : Int32) : m_loads τ x1 = mPl (m_place τ (x1 &&& 15)) ((x1 >>> (4 : Int32)) &&& 31).toNatClampNeg 0 w := by
  unfold m_loads mPl
  refine lt_l ?_
  refine lt_l ?_
  rw [if_neg h1, if_neg h2]
  refine lt_l ?_
  refine ite_e (fun _ => rfl) (fun _ => ?_)
  unfold mAt
  rw [if_pos (show (0 : Int32) = 0 from rfl)]
  rfl
theorem ms_eq (τ : Sg) {x1 : Int32} (h2 : ¬ (x1 &&& 15) = 15) : m_stores τ x1 = mPl (m_place τ (x1 &&& 15)) ((x1 >>> (4 : Int32)) &&& 31).toNatClampNeg 1 (τ 1 ((x1 >>> (4 : Int32)) &&& 31).toNatClampNeg) := by
  unfold m_stores mPl
  refine lt_l ?_
  refine lt_l ?_
  rw [if_neg h2]
  refine lt_l ?_
  refine ite_e (fun _ => rfl) (fun _ => ?_)
  unfold mAt
  rw [if_neg (show ¬ (1 : Int32) = 0 by decide)]
  rfl
theorem to_same {σ : Sg} (ok : XOK σ) {p : Int32} (hp : ¬ (p + 1).toNatClampNeg = p.toNatClampNeg) : x2_toPair σ p (x2_pair σ p) = σ := by
  have e1 : x2_pair σ p &&& 255 = σ 1 p.toNatClampNeg := pair_lo (xr_1 ok _) (xr_1 ok _)
  have e2 : (x2_pair σ p >>> (8 : Int32)) &&& 255 = σ 1 (p + 1).toNatClampNeg := pair_hi (xr_1 ok _) (xr_1 ok _)
  unfold x2_toPair
  rw [e1, e2, sst_id]
  refine lt_l ?_
  exact lt_l (sst_id σ 1 _)
theorem pl_0 (τ : Sg) : m_place τ 0 = m_next τ := by
  unfold m_place
  refine lt_l ?_
  rw [if_pos (show (0 : Int32) = 0 from rfl)]
  rfl
theorem pl_no (τ : Sg) {v : Int32} (h0 : ¬ v = 0) (h1 : ¬ ((v = 1) ∨ (v = 2))) (h2 : ¬ ((v = 9) ∨ (v = 10))) (h3 : (v < 12) ∨ (14 < v)) : m_place τ v = (-1, τ) := by
  unfold m_place
  rw [if_neg h1, if_neg h2, if_pos h3]
  refine lt_l ?_
  rw [if_neg h0, if_pos (show (-1 : Int32) = -1 from rfl)]
theorem pl_p (τ : Sg) {v p : Int32} (h0 : ¬ v = 0) (hp : (if (v = 1) ∨ (v = 2) then (30 : Int32) else if (v = 9) ∨ (v = 10) then 28 else if (v < 12) ∨ (14 < v) then (-1) else 26) = p) (hn : ¬ p = (-1)) {d : Int32} (hd : (if v = 12 then (0 : Int32) else if (v = 1) ∨ ((v = 9) ∨ (v = 13)) then 1 else (-1)) = d) : m_place τ v = (if d = (-1) then ((x2_pair τ p - 1) &&& 65535) else x2_pair τ p, x2_toPair τ p (x2_pair τ p + d)) := by
  unfold m_place
  rw [hp]
  refine lt_l ?_
  rw [if_neg h0, if_neg hn]
  refine lt_l ?_
  rw [hd, mptr]
  rfl
theorem pl_i (τ : Sg) {v p : Int32} (h0 : ¬ v = 0) (hp : (if (v = 1) ∨ (v = 2) then (30 : Int32) else if (v = 9) ∨ (v = 10) then 28 else if (v < 12) ∨ (14 < v) then (-1) else 26) = p) (hn : ¬ p = (-1)) (hd : (if v = 12 then (0 : Int32) else if (v = 1) ∨ ((v = 9) ∨ (v = 13)) then 1 else (-1)) = 1) : m_place τ v = (x2_pair τ p, x2_toPair τ p (x2_pair τ p + 1)) := by
  rw [pl_p τ h0 hp hn hd, if_neg (by decide)]
theorem pl_d (τ : Sg) {v p : Int32} (h0 : ¬ v = 0) (hp : (if (v = 1) ∨ (v = 2) then (30 : Int32) else if (v = 9) ∨ (v = 10) then 28 else if (v < 12) ∨ (14 < v) then (-1) else 26) = p) (hn : ¬ p = (-1)) (hd : (if v = 12 then (0 : Int32) else if (v = 1) ∨ ((v = 9) ∨ (v = 13)) then 1 else (-1)) = -1) : m_place τ v = ((x2_pair τ p - 1) &&& 65535, x2_toPair τ p ((x2_pair τ p - 1) &&& 65535)) := by
  rw [pl_p τ h0 hp hn hd, if_pos (show (-1 : Int32) = -1 from rfl), toPair16, Int32.sub_eq_add_neg]
theorem pl_s (τ : Sg) (ok : XOK τ) : m_place τ 12 = (x2_pair τ 26, τ) := by
  rw [pl_p τ (v := 12) (p := 26) (d := 0) (by decide) (by decide) (by decide) (by decide), if_neg (by decide), Int32.add_zero, to_same ok (by decide)]
theorem xm_0 (σ : Sg) {x1 x2 : Int32} (hv : x1 &&& 15 = 0) : x2_moved σ x1 x2 = lt (x2_next σ) fun z111 => lt (x2_move z111.2 x1 z111.1) fun s114 => (2, s114) := by
  unfold x2_moved
  refine lt_l ?_
  refine lt_l ?_
  refine lt_l ?_
  rw [hv, if_pos (show (0 : Int32) = 0 from rfl)]
theorem xm_p (σ : Sg) {x1 x2 v p z : Int32} (hv : x1 &&& 15 = v) (hz : (if (x1 &&& 512) = 0 then (0 : Int32) else 1) = z) (h0 : ¬ v = 0) (hb : ((((((v = 1) ∨ (v = 2)) ∨ (v = 9)) ∨ (v = 10)) ∨ (v = 12)) ∨ (v = 13)) ∨ (v = 14)) (hp : x2_pointer σ v = p) {d : Int32} (hd : (if (v = 2) ∨ ((v = 10) ∨ (v = 14)) then (1 : Int32) else 0) = d) {a : Int32} (ha : (if d = 0 then x2_pair σ p else (x2_pair σ p - 1) &&& 65535) = a) {q : Int32} (hq : (if d = 0 then a + 1 else a) = q) : x2_moved σ x1 x2 = (2, xAt (if v = 12 then σ else x2_toPair σ p q) a ((x1 >>> (4 : Int32)) &&& 31).toNatClampNeg z (σ 1 ((x1 >>> (4 : Int32)) &&& 31).toNatClampNeg)) := by
  unfold x2_moved
  rw [hz]
  refine lt_l ?_
  refine lt_l ?_
  refine lt_l ?_
  rw [hv, if_neg h0, if_pos hb, hp]
  refine lt_l ?_
  refine lt_l ?_
  refine lt_l ?_
  rw [hd]
  refine lt_l ?_
  have ha' : (if d = 0 then x2_pair σ p else lt (((x2_pair σ p - 1) &&& 65535) : Int32) fun v178 => v178) = a := ha
  rw [ha']
  refine lt_l ?_
  rw [hq]
  rfl
theorem xm_x (σ : Sg) {x1 x2 v : Int32} (hv : x1 &&& 15 = v) (h0 : ¬ v = 0) (hb : ¬ (((((((v = 1) ∨ (v = 2)) ∨ (v = 9)) ∨ (v = 10)) ∨ (v = 12)) ∨ (v = 13)) ∨ (v = 14))) (h4 : ¬ ((v = 4) ∨ (v = 5))) (h15 : ¬ v = 15) : x2_moved σ x1 x2 = (1, σ) := by
  unfold x2_moved
  refine lt_l ?_
  refine lt_l ?_
  refine lt_l ?_
  rw [hv, if_neg h0, if_neg hb, if_neg h4, if_neg h15]
theorem xm_f (σ : Sg) {x1 x2 v z : Int32} (hv : x1 &&& 15 = v) (hz : (if (x1 &&& 512) = 0 then (0 : Int32) else 1) = z) (h0 : ¬ v = 0) (hb : ¬ (((((((v = 1) ∨ (v = 2)) ∨ (v = 9)) ∨ (v = 10)) ∨ (v = 12)) ∨ (v = 13)) ∨ (v = 14))) (h4 : (v = 4) ∨ (v = 5)) : x2_moved σ x1 x2 = if z = 0 then lt (x10_read (if v = 5 then x2_toPair σ 30 (x2_pair σ 30 + 1) else σ) (x2_pair σ 30) x2) fun z280 => (3, sst z280.2 1 ((x1 >>> (4 : Int32)) &&& 31).toNatClampNeg z280.1) else (1, σ) := by
  unfold x2_moved
  rw [hz]
  refine lt_l ?_
  refine lt_l ?_
  refine lt_l ?_
  rw [hv, if_neg h0, if_neg hb, if_pos h4]
  exact ite_e (fun _ => rfl) (fun _ => rfl)
theorem xm_15 (σ : Sg) {x1 x2 z : Int32} (hv : x1 &&& 15 = 15) (hz : (if (x1 &&& 512) = 0 then (0 : Int32) else 1) = z) : x2_moved σ x1 x2 = (2, if z = 0 then lt (x2_pop σ) fun z312 => lt (sst z312.2 1 ((x1 >>> (4 : Int32)) &&& 31).toNatClampNeg z312.1) fun s315 => s315 else lt (x2_push σ (σ 1 ((x1 >>> (4 : Int32)) &&& 31).toNatClampNeg)) fun s299 => s299) := by
  unfold x2_moved
  rw [hz]
  refine lt_l ?_
  refine lt_l ?_
  refine lt_l ?_
  rw [hv, if_neg (by decide), if_neg (by decide), if_neg (by decide), if_pos (show (15 : Int32) = 15 from rfl)]
  rfl
theorem fb_comm (s : Sg) (a : Int32) {j : Nat} (v : Int32) (hj : j ≠ 87) : m_flashByte (sst s 1 j v) a = ((m_flashByte s a).1, sst (m_flashByte s a).2 1 j v) := by
  have h87 : sst s 1 j v 1 87 = s 1 87 := sst_ne_j _ _ (Ne.symm hj)
  have h0 : ∀ i, sst s 1 j v 0 i = s 0 i := fun i => sst_ne_k _ _ (by decide)
  have hc : ∀ x, m_code (sst s 1 j v) x = m_code s x := by
    intro x
    unfold m_code
    rw [h87, sst_row _ _ (by decide)]
  unfold m_flashByte
  rw [h87, h0 26]
  by_cases c : (0 < (s 0 26)) ∧ ((((s 1 87) >>> (1 : Int32)) &&& 15) = 4)
  · rw [if_pos c, if_pos c]
    have e1 : sst (sst s 1 j v) 0 26 0 = sst (sst s 0 26 0) 1 j v := sst_comm s _ _ (fun q => absurd q.1 (by decide))
    rw [e1]
    generalize sst s 0 26 0 = s2
    have e2 : sst s2 1 j v 1 87 = s2 1 87 := sst_ne_j _ _ (Ne.symm hj)
    rw [lt_g s2, lt_g (sst s2 1 j v), e2]
    have e3 : sst (sst s2 1 j v) 1 87 ((s2 1 87) &&& 224) = sst (sst s2 1 87 ((s2 1 87) &&& 224)) 1 j v := sst_comm s2 _ _ (fun q => hj q.2)
    rw [e3]
    generalize sst s2 1 87 ((s2 1 87) &&& 224) = s3
    rw [lt_g s3, lt_g (sst s3 1 j v)]
    rfl
  · rw [if_neg c, if_neg c]
    refine lt_l ?_
    rw [lt_g ((a >>> (1 : Int32)) &&& 2047)]
    generalize ((a >>> (1 : Int32)) &&& 2047) = w
    rw [hc w, h0 36, h0 28]
    refine lt_l ?_
    refine lt_l ?_
    rw [lt_g (if w < 1536 then (0 : Int32) else 1), lt_g (if s 0 36 < 1536 then (0 : Int32) else 1)]
    by_cases c1 : (if w < 1536 then (0 : Int32) else 1) = (if s 0 36 < 1536 then (0 : Int32) else 1)
    · rw [if_pos c1, if_pos c1]; rfl
    · rw [if_neg c1, if_neg c1]
      generalize (if (if w < 1536 then (0 : Int32) else 1) = 0 then (1 : Int32) else 3) = y
      rw [lt_g y, lt_g y]
      by_cases c2 : ((s 0 28 >>> (y &&& 31)) &&& 1) = 0
      · rw [if_pos c2, if_pos c2]
      · rw [if_neg c2, if_neg c2]; rfl
theorem fb_to (s : Sg) (a p v : Int32) (h1 : p.toNatClampNeg ≠ 87) (h2 : (p + 1).toNatClampNeg ≠ 87) : m_flashByte (x2_toPair s p v) a = ((m_flashByte s a).1, x2_toPair (m_flashByte s a).2 p v) := by
  show m_flashByte (sst (sst s 1 _ _) 1 _ _) a = (_, sst (sst _ 1 _ _) 1 _ _)
  rw [fb_comm _ _ _ h2, fb_comm _ _ _ h1]
theorem ltP_l {b : Bool} {A : Int32 × Sg} {z1 : Int32} {T : Sg} {f : Int32 × Sg → Int32 × Sg} {y : Int32 × Sg} (h : RP b A (z1, T)) (k : ∀ s, R b s T → RP b (f (z1, s)) y) : RP b (lt A f) y := by
  obtain ⟨v, s⟩ := A
  obtain ⟨e, h⟩ := h
  have e : v = z1 := e
  subst e
  exact k s h
theorem R_ld5 {b : Bool} {σ τ : Sg} (h : R b σ τ) (ok : XOK σ) {k : Int32} (hk : k = if τ 0 36 < 1536 then 0 else 1) {n : Nat} (hn : regish n = true) (v : Int32) : RP b (lt (x10_read (if v = 5 then x2_toPair σ 30 (x2_pair σ 30 + 1) else σ) (x2_pair σ 30) k) fun z280 => (3, sst z280.2 1 n z280.1)) (lt (m_flashByte τ (m_pointer τ 30)) fun z33 => lt ((if v = 5 then lt (m_setPointer z33.2 30 (m_pointer τ 30 + 1)) fun s50 => s50 else z33.2) : Sg) fun z40 => lt (sst z40 1 n z33.1) fun s60 => (3, s60)) := by
  have hp : m_pointer τ 30 = x2_pair σ 30 := by rw [mptr]; exact (R_pair h 30 rfl rfl).symm
  rw [hp]
  have ha := rg_pair ok 30
  by_cases q : v = 5
  · rw [if_pos q]
    have h2 : R b (x2_toPair σ 30 (x2_pair σ 30 + 1)) (x2_toPair τ 30 (x2_pair σ 30 + 1)) := R_x2_toPair h _ _ (by decide) (by decide)
    have h3 := R_read h2 (ok_x2_toPair σ 30 _ ok (rg_w rl_30 (by decide) (by decide))) ha (k := k) hk
    rw [fb_to τ _ _ _ (by decide) (by decide)] at h3
    generalize m_flashByte τ (x2_pair σ 30) = z at h3 ⊢
    obtain ⟨z1, z2⟩ := z
    refine ltr_P ?_
    rw [if_pos q]
    refine ltr_P ?_
    refine ltP_l h3 (fun s h => ?_)
    refine ltr_P ?_
    exact RP_i rfl (R_reg h rfl hn)
  · rw [if_neg q]
    have h3 := R_read h ok ha (k := k) hk
    generalize m_flashByte τ (x2_pair σ 30) = z at h3 ⊢
    obtain ⟨z1, z2⟩ := z
    refine ltr_P ?_
    rw [if_neg q]
    refine ltr_P ?_
    refine ltP_l h3 (fun s h => ?_)
    refine ltr_P ?_
    exact RP_i rfl (R_reg h rfl hn)
theorem nn_pair {σ : Sg} (ok : XOK σ) (p : Int32) : ¬ x2_pair σ p < 0 := nneg (rg_pair ok p)
theorem R_next {b : Bool} {σ τ : Sg} (h : R b σ τ) (okt : XOK τ) : RP b (x2_next σ) (m_next τ) := by
  rw [next_eq τ okt]; exact R_x2_next h
/-- the seven ways through a pointer -/
theorem R_mv_p {b : Bool} {σ τ : Sg} (h : R b σ τ) (ok : XOK σ) (okt : XOK τ) {x1 x2 v p z : Int32} (hv : x1 &&& 15 = v) (hz : (if (x1 &&& 512) = 0 then (0 : Int32) else 1) = z) (h0 : ¬ v = 0) (hb : ((((((v = 1) ∨ (v = 2)) ∨ (v = 9)) ∨ (v = 10)) ∨ (v = 12)) ∨ (v = 13)) ∨ (v = 14)) (hp : (if v < 4 then (30 : Int32) else if v < 12 then 28 else 26) = p) {d : Int32} (hd : (if (v = 2) ∨ ((v = 10) ∨ (v = 14)) then (1 : Int32) else 0) = d) (hpp : p = 26 ∨ p = 28 ∨ p = 30) (hpl : m_place τ v = if v = 12 then (x2_pair τ p, τ) else if d = 0 then (x2_pair τ p, x2_toPair τ p (x2_pair τ p + 1)) else ((x2_pair τ p - 1) &&& 65535, x2_toPair τ p ((x2_pair τ p - 1) &&& 65535))) (h12 : v = 12 → d = 0) : RP b (x2_moved σ x1 x2) (mPl (m_place τ v) ((x1 >>> (4 : Int32)) &&& 31).toNatClampNeg z (τ 1 ((x1 >>> (4 : Int32)) &&& 31).toNatClampNeg)) := by
  rw [xm_p σ hv hz h0 hb (show x2_pointer σ v = p from hp) hd rfl rfl, hpl, ← h.da _ (okjr_a31 _)]
  have hr : regish p.toNatClampNeg = true ∧ regish (p + 1).toNatClampNeg = true ∧ rg 0 1278 p := by
    rcases hpp with q | q | q <;> rw [q]
    · exact ⟨by decide, by decide, rg_w rl_26 (by decide) (by decide)⟩
    · exact ⟨by decide, by decide, rg_w rl_28 (by decide) (by decide)⟩
    · exact ⟨by decide, by decide, rg_w rl_30 (by decide) (by decide)⟩
  have hpe : x2_pair τ p = x2_pair σ p := (R_pair h p (regish_okj hr.1) (regish_okj hr.2.1)).symm
  rw [hpe]
  by_cases q12 : v = 12
  · have d0 := h12 q12
    rw [if_pos q12, if_pos q12, if_pos d0, mPl_at _ _ _ (nn_pair ok p)]
    exact RP_i rfl (R_at h ok (rg_pair ok p) (xr_1 ok _) (rgh_a31 _) z)
  · rw [if_neg q12, if_neg q12]
    by_cases d0 : d = 0
    · rw [if_pos d0, if_pos d0, if_pos d0, mPl_at _ _ _ (nn_pair ok p)]
      exact RP_i rfl (R_at (R_x2_toPair h _ _ hr.1 hr.2.1) (ok_x2_toPair σ p _ ok hr.2.2) (rg_pair ok p) (xr_1 ok _) (rgh_a31 _) z)
    · have ha : rg 0 65535 ((x2_pair σ p - 1) &&& 65535) := rg_and_r (rg_w rl_65535 (by decide) (by decide))
      rw [if_neg d0, if_neg d0, if_neg d0, mPl_at _ _ _ (nneg ha)]
      exact RP_i rfl (R_at (R_x2_toPair h _ _ hr.1 hr.2.1) (ok_x2_toPair σ p _ ok hr.2.2) ha (xr_1 ok _) (rgh_a31 _) z)
theorem R_mv {b : Bool} {σ τ : Sg} (h : R b σ τ) (ok : XOK σ) (okt : XOK τ) {x1 x2 z : Int32} (hz : (if (x1 &&& 512) = 0 then (0 : Int32) else 1) = z) (h4 : ¬ ((x1 &&& 15) = 4 ∨ (x1 &&& 15) = 5)) (h15 : ¬ (x1 &&& 15) = 15) : RP b (x2_moved σ x1 x2) (mPl (m_place τ (x1 &&& 15)) ((x1 >>> (4 : Int32)) &&& 31).toNatClampNeg z (τ 1 ((x1 >>> (4 : Int32)) &&& 31).toNatClampNeg)) := by
  rcases c16 (rg15 x1) with q | q | q | q | q | q | q | q | q | q | q | q | q | q | q | q
  · rw [xm_0 σ q, q, pl_0]
    have hw : σ 1 ((x1 >>> (4 : Int32)) &&& 31).toNatClampNeg = τ 1 ((x1 >>> (4 : Int32)) &&& 31).toNatClampNeg := h.da _ (okjr_a31 _)
    have hn := R_next h okt
    have o1 := ok_x2_next σ ok
    have e1 : (x2_next σ).2 = x2_go σ ((σ 0 0) + 1) := rfl
    have r1 : σ 1 ((x1 >>> (4 : Int32)) &&& 31).toNatClampNeg = (x2_next σ).2 1 ((x1 >>> (4 : Int32)) &&& 31).toNatClampNeg := rfl
    rw [← hw, r1]
    revert hn o1
    generalize x2_next σ = y
    generalize m_next τ = y2
    obtain ⟨a, s⟩ := y
    obtain ⟨a2, t⟩ := y2
    intro hn o1
    obtain ⟨ee, hn⟩ := hn
    have ee : a = a2 := ee
    subst ee
    have hn : R b s t := hn
    have oka : rg 0 65535 a := o1.2
    rw [mPl_at _ _ _ (nneg oka)]
    refine ltl_P ?_
    refine ltl_P (RP_i rfl ?_)
    have h2 := R_at hn o1.1 oka (v := s 1 ((x1 >>> (4 : Int32)) &&& 31).toNatClampNeg) (xr_1 o1.1 _) (rgh_a31 (x1 >>> (4 : Int32))) z
    have e2 : x2_move s x1 a = xAt s a ((x1 >>> (4 : Int32)) &&& 31).toNatClampNeg z (s 1 ((x1 >>> (4 : Int32)) &&& 31).toNatClampNeg) := by
      unfold x2_move xAt
      refine lt_l ?_
      refine lt_l ?_
      rw [← hz]
      by_cases c : x1 &&& 512 = 0
      · rw [if_pos c, if_pos c, if_pos (show (0 : Int32) = 0 from rfl)]
      · rw [if_neg c, if_neg c, if_neg (by decide)]
    show R b (x2_move s x1 a) _
    rw [e2]; exact h2
  · rw [q]; exact R_mv_p h ok okt (p := 30) (d := 0) q hz (by decide) (by decide) (by decide) (by decide) (by decide) (by rw [pl_i τ (v := 1) (p := 30) (by decide) (by decide) (by decide) (by decide)]; rw [if_neg (by decide), if_pos (by decide)]) (by decide)
  · rw [q]; exact R_mv_p h ok okt (p := 30) (d := 1) q hz (by decide) (by decide) (by decide) (by decide) (by decide) (by rw [pl_d τ (v := 2) (p := 30) (by decide) (by decide) (by decide) (by decide)]; rw [if_neg (by decide), if_neg (by decide)]) (by decide)
  · rw [q, pl_no τ (by decide) (by decide) (by decide) (by decide), mPl_no, xm_x σ q (by decide) (by decide) (by decide) (by decide)]; exact RP_i rfl h
  · exact absurd (Or.inl q) h4
  · exact absurd (Or.inr q) h4
  · rw [q, pl_no τ (by decide) (by decide) (by decide) (by decide), mPl_no, xm_x σ q (by decide) (by decide) (by decide) (by decide)]; exact RP_i rfl h
  · rw [q, pl_no τ (by decide) (by decide) (by decide) (by decide), mPl_no, xm_x σ q (by decide) (by decide) (by decide) (by decide)]; exact RP_i rfl h
  · rw [q, pl_no τ (by decide) (by decide) (by decide) (by decide), mPl_no, xm_x σ q (by decide) (by decide) (by decide) (by decide)]; exact RP_i rfl h
  · rw [q]; exact R_mv_p h ok okt (p := 28) (d := 0) q hz (by decide) (by decide) (by decide) (by decide) (by decide) (by rw [pl_i τ (v := 9) (p := 28) (by decide) (by decide) (by decide) (by decide)]; rw [if_neg (by decide), if_pos (by decide)]) (by decide)
  · rw [q]; exact R_mv_p h ok okt (p := 28) (d := 1) q hz (by decide) (by decide) (by decide) (by decide) (by decide) (by rw [pl_d τ (v := 10) (p := 28) (by decide) (by decide) (by decide) (by decide)]; rw [if_neg (by decide), if_neg (by decide)]) (by decide)
  · rw [q, pl_no τ (by decide) (by decide) (by decide) (by decide), mPl_no, xm_x σ q (by decide) (by decide) (by decide) (by decide)]; exact RP_i rfl h
  · rw [q]; exact R_mv_p h ok okt (p := 26) (d := 0) q hz (by decide) (by decide) (by decide) (by decide) (by decide) (by rw [pl_s τ okt, if_pos rfl]) (by decide)
  · rw [q]; exact R_mv_p h ok okt (p := 26) (d := 0) q hz (by decide) (by decide) (by decide) (by decide) (by decide) (by rw [pl_i τ (v := 13) (p := 26) (by decide) (by decide) (by decide) (by decide)]; rw [if_neg (by decide), if_pos (by decide)]) (by decide)
  · rw [q]; exact R_mv_p h ok okt (p := 26) (d := 1) q hz (by decide) (by decide) (by decide) (by decide) (by decide) (by rw [pl_d τ (v := 14) (p := 26) (by decide) (by decide) (by decide) (by decide)]; rw [if_neg (by decide), if_neg (by decide)]) (by decide)
  · exact absurd q h15
theorem R_loads {b : Bool} {σ τ : Sg} (h : R b σ τ) (ok : XOK σ) (okt : XOK τ) {x1 k : Int32} (hx : (x1 &&& 512) = 0) (hk : k = if τ 0 36 < 1536 then 0 else 1) : RP b (x2_moved σ x1 k) (m_loads τ x1) := by
  have hz : (if (x1 &&& 512) = 0 then (0 : Int32) else 1) = 0 := if_pos hx
  by_cases h45 : (x1 &&& 15) = 4 ∨ (x1 &&& 15) = 5
  · have hb : ¬ ((((((((x1 &&& 15) = 1) ∨ ((x1 &&& 15) = 2)) ∨ ((x1 &&& 15) = 9)) ∨ ((x1 &&& 15) = 10)) ∨ ((x1 &&& 15) = 12)) ∨ ((x1 &&& 15) = 13)) ∨ ((x1 &&& 15) = 14)) := by
      rcases h45 with q | q <;> rw [q] <;> decide
    have h0 : ¬ (x1 &&& 15) = 0 := by rcases h45 with q | q <;> rw [q] <;> decide
    rw [xm_f σ rfl hz h0 hb h45, if_pos (show (0 : Int32) = 0 from rfl)]
    unfold m_loads
    refine ltr_P ?_
    refine ltr_P ?_
    rw [if_pos h45]
    refine ltr_P ?_
    exact R_ld5 h ok hk (rgh_a31 _) _
  · by_cases h15 : (x1 &&& 15) = 15
    · rw [xm_15 σ h15 hz, if_pos (show (0 : Int32) = 0 from rfl)]
      unfold m_loads
      refine ltr_P ?_
      refine ltr_P ?_
      rw [if_neg h45, if_pos h15]
      have h2 := R_pop h ok
      generalize x2_pop σ = y at h2 ⊢
      generalize m_pop τ = y2 at h2 ⊢
      obtain ⟨a, s⟩ := y
      obtain ⟨a2, t⟩ := y2
      obtain ⟨e, h2⟩ := h2
      refine ltr_P ?_
      refine ltr_P ?_
      exact RP_i rfl (R_reg h2 e (rgh_a31 _))
    · rw [ml_eq τ h45 h15 (τ 1 ((x1 >>> (4 : Int32)) &&& 31).toNatClampNeg)]
      exact R_mv h ok okt hz h45 h15
theorem R_storesI {b : Bool} {σ τ : Sg} (h : R b σ τ) (ok : XOK σ) (okt : XOK τ) {x1 : Int32} (k : Int32) (hx : ¬ (x1 &&& 512) = 0) : RP b (x2_moved σ x1 k) (m_stores τ x1) := by
  have hz : (if (x1 &&& 512) = 0 then (0 : Int32) else 1) = 1 := if_neg hx
  by_cases h15 : (x1 &&& 15) = 15
  · rw [xm_15 σ h15 hz, if_neg (show ¬ (1 : Int32) = 0 by decide)]
    unfold m_stores
    refine ltr_P ?_
    refine ltr_P ?_
    rw [if_pos h15, ← h.da _ (okjr_a31 _)]
    refine ltr_P ?_
    exact RP_i rfl (R_push h ok (xr_1 ok _))
  · rw [ms_eq τ h15]
    by_cases h45 : (x1 &&& 15) = 4 ∨ (x1 &&& 15) = 5
    · have hb : ¬ ((((((((x1 &&& 15) = 1) ∨ ((x1 &&& 15) = 2)) ∨ ((x1 &&& 15) = 9)) ∨ ((x1 &&& 15) = 10)) ∨ ((x1 &&& 15) = 12)) ∨ ((x1 &&& 15) = 13)) ∨ ((x1 &&& 15) = 14)) := by
        rcases h45 with q | q <;> rw [q] <;> decide
      have h0 : ¬ (x1 &&& 15) = 0 := by rcases h45 with q | q <;> rw [q] <;> decide
      have hp : m_place τ (x1 &&& 15) = (-1, τ) := by
        rcases h45 with q | q <;> rw [q] <;> exact pl_no τ (by decide) (by decide) (by decide) (by decide)
      rw [xm_f σ rfl hz h0 hb h45, if_neg (show ¬ (1 : Int32) = 0 by decide), hp, mPl_no]
      exact RP_i rfl h
    · exact R_mv h ok okt hz h45 h15
