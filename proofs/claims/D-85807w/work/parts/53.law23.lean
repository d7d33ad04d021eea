/-! PLAIN LAW 23: instructions of one register and of none -/
set_option maxRecDepth 100000
theorem set_06 (σ : Sg) (f v : Int32) : x2_set σ f v 0 6 = σ 0 6 := by rw [x2_set_eq]; exact sst_ne_k _ _ (by decide)
theorem pop_06 {σ : Sg} (h : σ 0 6 = 0) : x2_popPlace σ 0 6 = 0 := by
  unfold x2_popPlace
  have h1 : FrP 6 0 (x2_pop σ) := Fr_x2_pop (Or.inr rfl) h
  have h2 : FrP 6 0 (x2_pop (x2_pop σ).2) := Fr_x2_pop (Or.inr rfl) h1
  have e : ∀ (s : Sg) (v : Int32), x2_go s v 0 6 = s 0 6 := fun s v => sst_ne_j s (k := 0) (j := 0) (i := 6) (v &&& 2047) (by decide)
  have h3 := (e (x2_pop (x2_pop σ).2).2 (((x2_pop σ).1 <<< (8 : Int32)) ||| (x2_pop (x2_pop σ).2).1)).trans h2
  exact h3
theorem R_alone {b : Bool} {σ τ : Sg} (h : R b σ τ) (ok : XOK σ) (h6 : σ 0 6 = 0) (h7 : σ 0 7 = 0) (x1 : Int32) {k : Int32} (hk : k = if τ 0 36 < 1536 then 0 else 1) : RP b (x2_alone σ x1 k) (m_others τ x1) := by
  unfold x2_alone m_others
  refine ite_P (fun _ => ?_) (fun _ => ?_)
  · refine ltl_P ?_
    refine ltr_P ?_
    rw [setFlag_set]
    have h1 := R_x2_set h ((1 : Int32) <<< (((x1 >>> (4 : Int32)) &&& 7) &&& 31)) (if (x1 &&& 128) = 0 then 1 else 0)
    have h2 := set_06 σ ((1 : Int32) <<< (((x1 >>> (4 : Int32)) &&& 7) &&& 31)) (if (x1 &&& 128) = 0 then 1 else 0)
    revert h1 h2
    generalize x2_set σ _ _ = s
    generalize x2_set τ _ _ = t
    intro h1 h2
    refine ltl_P (ltr_P ?_)
    refine ltl_P (ltr_P ?_)
    refine ltl_P (ltr_P ?_)
    exact RP_i rfl (R_fresh h1 rfl (Or.inl (h2.trans h6)))
  · refine ltl_P (ltr_P ?_)
    generalize ((x1 >>> (4 : Int32)) &&& 15) = v
    have hpp := R_popPlace h ok
    have hq := pop_06 h6
    refine ite_P (fun _ => ?_) (fun _ => ?_)
    · revert hpp
      generalize x2_popPlace σ = s
      generalize m_popPlace τ = y
      intro hpp
      refine ltl_P (ltr_P (ltr_P ?_))
      exact RP_i rfl hpp
    refine ite_P (fun _ => ?_) (fun _ => ?_)
    · revert hpp hq
      generalize x2_popPlace σ = s
      generalize m_popPlace τ = y
      intro hpp hq
      refine ltl_P (ltr_P (ltr_P ?_))
      have h3 : R b s (sst y.2 0 0 y.1) := hpp
      revert h3
      generalize sst y.2 0 0 y.1 = t
      intro h3
      rw [setFlag_set, bsh7]
      have h4 := R_x2_set h3 128 1
      have h5 := set_06 s 128 1
      revert h4 h5
      generalize x2_set s 128 1 = s2
      generalize x2_set t 128 1 = t2
      intro h4 h5
      refine ltl_P (ltr_P (ltl_P (ltr_P ?_)))
      exact RP_i rfl (R_fresh h4 rfl (Or.inl (h5.trans hq)))
    refine ite_P (fun _ => ?_) (fun _ => ?_)
    · refine ltl_P (ltr_P ?_)
      exact RP_i rfl (R_sleep h rfl (Or.inr h7))
    refine ite_P (fun _ => ?_) (fun _ => ?_)
    · refine ltl_P (ltr_P ?_)
      exact RP_i rfl (R_scal h rfl rfl (fun q => by cases q))
    refine ite_P (fun _ => ?_) (fun _ => ?_)
    · have hp : m_pointer τ 30 = x2_pair σ 30 := by rw [mptr]; exact (R_pair h 30 rfl rfl).symm
      rw [hp]
      refine ltP_P (R_read h ok (rg_pair ok 30) hk) (fun v s t h => ?_)
      refine ltl_P (ltr_P ?_)
      exact RP_i rfl (R_reg h rfl rfl)
    refine ite_P (fun _ => ?_) (fun _ => ?_)
    · exact ltS_P (R_stores h ok hk) (fun s t h => RP_i rfl h)
    exact RP_i rfl h
theorem R_indirect {b : Bool} {σ τ : Sg} (h : R b σ τ) (ok : XOK σ) (x1 : Int32) : RP b (x2_indirect σ x1) (m_through τ x1) := by
  unfold x2_indirect m_through
  by_cases q1 : x1 = 37897
  · have q2 : ¬ x1 = 38153 := by rw [q1]; decide
    rw [if_pos (Or.inl q1), if_pos q1, if_neg q2, if_neg q2]
    refine ltl_P ?_
    have hp : m_pointer τ 30 = x2_pair σ 30 := by rw [mptr]; exact (R_pair h 30 rfl rfl).symm
    rw [hp]
    unfold x2_go
    refine ltl_P (ltr_P ?_)
    refine ltl_P ?_
    exact RP_i rfl (R_pc h rfl)
  · by_cases q2 : x1 = 38153
    · rw [if_pos (Or.inr q2), if_neg q1, if_pos q2, if_pos q2, if_pos q2]
      have h2 := R_pushPlace h ok
      revert h2
      generalize x2_pushPlace σ = s
      generalize m_pushPlace τ (τ 0 0) = t
      intro h2
      refine ltl_P (ltr_P ?_)
      have hp : m_pointer t 30 = x2_pair s 30 := by rw [mptr]; exact (R_pair h2 30 rfl rfl).symm
      rw [hp]
      unfold x2_go
      refine ltl_P (ltr_P ?_)
      refine ltl_P ?_
      exact RP_i rfl (R_pc h2 rfl)
    · rw [if_neg (by rintro (q | q); exact q1 q; exact q2 q), if_neg q1, if_neg q2]
      exact RP_i rfl h
theorem swap_f : ∀ n : Fin 256, (((nI n.val <<< (4 : Int32)) &&& 240) ||| (nI n.val >>> (4 : Int32))) = ((nI n.val >>> (4 : Int32)) ||| ((nI n.val &&& 15) <<< (4 : Int32))) := by decide +kernel
theorem inc_f : ∀ n : Fin 256, ((nI n.val + 1) &&& 255 = 128) ↔ (nI n.val = 127) := by decide +kernel
theorem dec_f : ∀ n : Fin 256, (nI n.val + 255) &&& 255 = (nI n.val - 1) &&& 255 ∧ (((nI n.val + 255) &&& 255 = 127) ↔ nI n.val = 128) := by decide +kernel
theorem swap_e {x : Int32} (h : rg 0 255 x) : (((x <<< (4 : Int32)) &&& 240) ||| (x >>> (4 : Int32))) = ((x >>> (4 : Int32)) ||| ((x &&& 15) <<< (4 : Int32))) := by
  obtain ⟨e, e2⟩ := rg_nI h
  have := h.2
  rw [e]; exact swap_f ⟨x.toNatClampNeg, by omega⟩
theorem inc_e {x : Int32} (h : rg 0 255 x) : ((x + 1) &&& 255 = 128) ↔ (x = 127) := by
  obtain ⟨e, e2⟩ := rg_nI h
  have := h.2
  rw [e]; exact inc_f ⟨x.toNatClampNeg, by omega⟩
theorem dec_e {x : Int32} (h : rg 0 255 x) : (x + 255) &&& 255 = (x - 1) &&& 255 ∧ (((x + 255) &&& 255 = 127) ↔ x = 128) := by
  obtain ⟨e, e2⟩ := rg_nI h
  have := h.2
  rw [e]; exact dec_f ⟨x.toNatClampNeg, by omega⟩
theorem com_rg {x : Int32} (h : rg 0 255 x) : rg 0 255 (255 - x) := rg_w (rg_sub rl_255 h (by decide) (by decide)) (by decide) (by decide)
theorem bit2_of {x : Int32} {v w : Int32} (h : x &&& 15 = v) (hw : v &&& 2 = w) : x &&& 2 = w := by
  rw [← hw, ← h, Int32.and_assoc]
  rfl
theorem R_jmp {b : Bool} {σ τ : Sg} (h : R b σ τ) (okt : XOK τ) {x1 : Int32} (hx : x1 &&& 2 = 0) : RP b (lt (x2_next σ) fun z255 => lt ((if (x1 &&& 2) = 0 then z255.2 else lt (x2_pushPlace z255.2) fun s267 => s267) : Sg) fun z263 => lt (x2_go z263 z255.1) fun s273 => lt ((if (x1 &&& 2) = 0 then 3 else 4) : Int32) fun z279 => (z279, s273)) (lt (m_next τ) fun z241 => lt (sst z241.2 0 0 (z241.1 &&& 2047)) fun s248 => (3, s248)) := by
  refine ltP_P (R_next h okt) (fun v s t h => ?_)
  rw [if_pos hx, if_pos hx]
  refine ltl_P ?_
  unfold x2_go
  refine ltl_P (ltr_P (ltl_P ?_))
  exact RP_i rfl (R_pc h rfl)
theorem R_call {b : Bool} {σ τ : Sg} (h : R b σ τ) (ok : XOK σ) (okt : XOK τ) {x1 : Int32} (hx : ¬ x1 &&& 2 = 0) : RP b (lt (x2_next σ) fun z255 => lt ((if (x1 &&& 2) = 0 then z255.2 else lt (x2_pushPlace z255.2) fun s267 => s267) : Sg) fun z263 => lt (x2_go z263 z255.1) fun s273 => lt ((if (x1 &&& 2) = 0 then 3 else 4) : Int32) fun z279 => (z279, s273)) (lt (m_next τ) fun z254 => lt ((z254.1 &&& 2047) : Int32) fun v261 => lt (m_pushPlace z254.2 (z254.2 0 0)) fun s268 => lt (sst s268 0 0 v261) fun s274 => (4, s274)) := by
  have h1 := R_next h okt
  have o1 := (ok_x2_next σ ok).1
  revert h1 o1
  generalize x2_next σ = y
  generalize m_next τ = y2
  obtain ⟨a, s⟩ := y
  obtain ⟨a2, t⟩ := y2
  rintro ⟨e, h1⟩ o1
  have e : a = a2 := e
  subst e
  have h2 := R_pushPlace h1 o1
  simp only [if_neg hx]
  refine ltl_P (ltr_P (ltr_P ?_))
  refine ltS_P h2 (fun s t h => ?_)
  unfold x2_go
  refine ltl_P (ltr_P (ltl_P ?_))
  exact RP_i rfl (R_pc h rfl)
theorem rg255_0 : rg 0 255 (0 : Int32) := rg_w rl_0 (by decide) (by decide)
theorem rg01_ite {c : Prop} [Decidable c] : rg 0 1 (if c then (1 : Int32) else 0) := rg_ite (rg_w rl_1 (by decide) (by decide)) (rg_w rl_0 (by decide) (by decide))
theorem R_one {b : Bool} {σ τ : Sg} (h : R b σ τ) (ok : XOK σ) (okt : XOK τ) (h6 : σ 0 6 = 0) (h7 : σ 0 7 = 0) (x1 : Int32) {k : Int32} (hk : k = if τ 0 36 < 1536 then 0 else 1) : RP b (x2_one σ x1 k) (m_single τ x1) := by
  have hr : rg 0 31 ((x1 >>> (4 : Int32)) &&& 31) := rgr_a31 _
  have hg := rgh_a31 (x1 >>> (4 : Int32))
  have hd := h.da _ (okjr_a31 (x1 >>> (4 : Int32)))
  unfold x2_one m_single
  refine ltl_P (ltr_P ?_)
  rw [hd]
  generalize ((x1 >>> (4 : Int32)) &&& 31) = n at hr hg hd ⊢
  have hv := xr_1 okt n.toNatClampNeg
  rw [lt_g (τ 1 n.toNatClampNeg), lt_g (τ 1 n.toNatClampNeg)]
  refine ltl_P (ltr_P ?_)
  rcases c16 (rg15 x1) with q | q | q | q | q | q | q | q | q | q | q | q | q | q | q | q
  · have a0 : (x1 &&& 15) = 0 := by rw [q] <;> decide
    have a1 : ¬ ((x1 &&& 15) = 1) := by rw [q] <;> decide
    have a2 : ¬ ((x1 &&& 15) = 2) := by rw [q] <;> decide
    have a3 : ¬ ((x1 &&& 15) = 3) := by rw [q] <;> decide
    have a310 : ¬ (((x1 &&& 15) = 3) ∨ ((x1 &&& 15) = 10)) := by rw [q] <;> decide
    have a567 : ¬ ((((x1 &&& 15) = 5) ∨ ((x1 &&& 15) = 6)) ∨ ((x1 &&& 15) = 7)) := by rw [q] <;> decide
    have a8 : ¬ ((x1 &&& 15) = 8) := by rw [q] <;> decide
    have a9 : ¬ ((x1 &&& 15) = 9) := by rw [q] <;> decide
    have a10 : ¬ ((x1 &&& 15) = 10) := by rw [q] <;> decide
    have ac : ¬ (((((x1 &&& 15) = 12) ∨ ((x1 &&& 15) = 13)) ∨ ((x1 &&& 15) = 14)) ∨ ((x1 &&& 15) = 15)) := by rw [q] <;> decide
    have ad : ¬ (((x1 &&& 15) = 12) ∨ ((x1 &&& 15) = 13)) := by rw [q] <;> decide
    have ae : ¬ (((x1 &&& 15) = 14) ∨ ((x1 &&& 15) = 15)) := by rw [q] <;> decide
    simp only [if_pos a0, if_neg a1, if_neg a2, if_neg a3, if_neg a310, if_neg a567, if_neg a8, if_neg a9, if_neg a10, if_neg ac, if_neg ad, if_neg ae]
    rw [logic_eq τ (com_rg hv)]
    refine ltP_P (R_x2_logic h _) (fun v s t h => ?_)
    refine ltS_P (R_reg h rfl hg) (fun s t h => ?_)
    refine ltS_P ?_ (fun s t h => RP_i rfl h)
    rw [setFlag_set, bsh0]
    exact R_x2_set h 1 1
  · have a0 : ¬ ((x1 &&& 15) = 0) := by rw [q] <;> decide
    have a1 : (x1 &&& 15) = 1 := by rw [q] <;> decide
    have a2 : ¬ ((x1 &&& 15) = 2) := by rw [q] <;> decide
    have a3 : ¬ ((x1 &&& 15) = 3) := by rw [q] <;> decide
    have a310 : ¬ (((x1 &&& 15) = 3) ∨ ((x1 &&& 15) = 10)) := by rw [q] <;> decide
    have a567 : ¬ ((((x1 &&& 15) = 5) ∨ ((x1 &&& 15) = 6)) ∨ ((x1 &&& 15) = 7)) := by rw [q] <;> decide
    have a8 : ¬ ((x1 &&& 15) = 8) := by rw [q] <;> decide
    have a9 : ¬ ((x1 &&& 15) = 9) := by rw [q] <;> decide
    have a10 : ¬ ((x1 &&& 15) = 10) := by rw [q] <;> decide
    have ac : ¬ (((((x1 &&& 15) = 12) ∨ ((x1 &&& 15) = 13)) ∨ ((x1 &&& 15) = 14)) ∨ ((x1 &&& 15) = 15)) := by rw [q] <;> decide
    have ad : ¬ (((x1 &&& 15) = 12) ∨ ((x1 &&& 15) = 13)) := by rw [q] <;> decide
    have ae : ¬ (((x1 &&& 15) = 14) ∨ ((x1 &&& 15) = 15)) := by rw [q] <;> decide
    simp only [if_neg a0, if_pos a1, if_neg a2, if_neg a3, if_neg a310, if_neg a567, if_neg a8, if_neg a9, if_neg a10, if_neg ac, if_neg ad, if_neg ae]
    rw [sub_eq0 τ rg255_0 hv rg01_0]
    refine ltP_P (R_x2_taken h _ _ _) (fun v s t h => ?_)
    exact ltS_P (R_reg h rfl hg) (fun s t h => RP_i rfl h)
  · have a0 : ¬ ((x1 &&& 15) = 0) := by rw [q] <;> decide
    have a1 : ¬ ((x1 &&& 15) = 1) := by rw [q] <;> decide
    have a2 : (x1 &&& 15) = 2 := by rw [q] <;> decide
    have a3 : ¬ ((x1 &&& 15) = 3) := by rw [q] <;> decide
    have a310 : ¬ (((x1 &&& 15) = 3) ∨ ((x1 &&& 15) = 10)) := by rw [q] <;> decide
    have a567 : ¬ ((((x1 &&& 15) = 5) ∨ ((x1 &&& 15) = 6)) ∨ ((x1 &&& 15) = 7)) := by rw [q] <;> decide
    have a8 : ¬ ((x1 &&& 15) = 8) := by rw [q] <;> decide
    have a9 : ¬ ((x1 &&& 15) = 9) := by rw [q] <;> decide
    have a10 : ¬ ((x1 &&& 15) = 10) := by rw [q] <;> decide
    have ac : ¬ (((((x1 &&& 15) = 12) ∨ ((x1 &&& 15) = 13)) ∨ ((x1 &&& 15) = 14)) ∨ ((x1 &&& 15) = 15)) := by rw [q] <;> decide
    have ad : ¬ (((x1 &&& 15) = 12) ∨ ((x1 &&& 15) = 13)) := by rw [q] <;> decide
    have ae : ¬ (((x1 &&& 15) = 14) ∨ ((x1 &&& 15) = 15)) := by rw [q] <;> decide
    simp only [if_neg a0, if_neg a1, if_pos a2, if_neg a3, if_neg a310, if_neg a567, if_neg a8, if_neg a9, if_neg a10, if_neg ac, if_neg ad, if_neg ae]
    rw [swap_e hv]
    exact ltS_P (R_reg h rfl hg) (fun s t h => RP_i rfl h)
  · have a0 : ¬ ((x1 &&& 15) = 0) := by rw [q] <;> decide
    have a1 : ¬ ((x1 &&& 15) = 1) := by rw [q] <;> decide
    have a2 : ¬ ((x1 &&& 15) = 2) := by rw [q] <;> decide
    have a3 : (x1 &&& 15) = 3 := by rw [q] <;> decide
    have a310 : ((x1 &&& 15) = 3) ∨ ((x1 &&& 15) = 10) := by rw [q] <;> decide
    have a567 : ¬ ((((x1 &&& 15) = 5) ∨ ((x1 &&& 15) = 6)) ∨ ((x1 &&& 15) = 7)) := by rw [q] <;> decide
    have a8 : ¬ ((x1 &&& 15) = 8) := by rw [q] <;> decide
    have a9 : ¬ ((x1 &&& 15) = 9) := by rw [q] <;> decide
    have a10 : ¬ ((x1 &&& 15) = 10) := by rw [q] <;> decide
    have ac : ¬ (((((x1 &&& 15) = 12) ∨ ((x1 &&& 15) = 13)) ∨ ((x1 &&& 15) = 14)) ∨ ((x1 &&& 15) = 15)) := by rw [q] <;> decide
    have ad : ¬ (((x1 &&& 15) = 12) ∨ ((x1 &&& 15) = 13)) := by rw [q] <;> decide
    have ae : ¬ (((x1 &&& 15) = 14) ∨ ((x1 &&& 15) = 15)) := by rw [q] <;> decide
    simp only [if_neg a0, if_neg a1, if_neg a2, if_pos a3, if_pos a310, if_neg a567, if_neg a8, if_neg a9, if_neg a10, if_neg ac, if_neg ad, if_neg ae]
    refine ltl_P ?_
    refine ltr_P (ltr_P (ltr_P (ltr_P ?_)))
    rw [ififf (inc_e hv)]
    refine ltr_P ?_
    rw [by_eq τ _ _ rg01_ite]
    refine ltS_P (R_x2_by h _ _) (fun s t h => ?_)
    exact ltS_P (R_reg h rfl hg) (fun s t h => RP_i rfl h)
  · have a0 : ¬ ((x1 &&& 15) = 0) := by rw [q] <;> decide
    have a1 : ¬ ((x1 &&& 15) = 1) := by rw [q] <;> decide
    have a2 : ¬ ((x1 &&& 15) = 2) := by rw [q] <;> decide
    have a3 : ¬ ((x1 &&& 15) = 3) := by rw [q] <;> decide
    have a310 : ¬ (((x1 &&& 15) = 3) ∨ ((x1 &&& 15) = 10)) := by rw [q] <;> decide
    have a567 : ¬ ((((x1 &&& 15) = 5) ∨ ((x1 &&& 15) = 6)) ∨ ((x1 &&& 15) = 7)) := by rw [q] <;> decide
    have a8 : ¬ ((x1 &&& 15) = 8) := by rw [q] <;> decide
    have a9 : ¬ ((x1 &&& 15) = 9) := by rw [q] <;> decide
    have a10 : ¬ ((x1 &&& 15) = 10) := by rw [q] <;> decide
    have ac : ¬ (((((x1 &&& 15) = 12) ∨ ((x1 &&& 15) = 13)) ∨ ((x1 &&& 15) = 14)) ∨ ((x1 &&& 15) = 15)) := by rw [q] <;> decide
    have ad : ¬ (((x1 &&& 15) = 12) ∨ ((x1 &&& 15) = 13)) := by rw [q] <;> decide
    have ae : ¬ (((x1 &&& 15) = 14) ∨ ((x1 &&& 15) = 15)) := by rw [q] <;> decide
    simp only [if_neg a0, if_neg a1, if_neg a2, if_neg a3, if_neg a310, if_neg a567, if_neg a8, if_neg a9, if_neg a10, if_neg ac, if_neg ad, if_neg ae]
    exact RP_i rfl h
  · have a0 : ¬ ((x1 &&& 15) = 0) := by rw [q] <;> decide
    have a1 : ¬ ((x1 &&& 15) = 1) := by rw [q] <;> decide
    have a2 : ¬ ((x1 &&& 15) = 2) := by rw [q] <;> decide
    have a3 : ¬ ((x1 &&& 15) = 3) := by rw [q] <;> decide
    have a310 : ¬ (((x1 &&& 15) = 3) ∨ ((x1 &&& 15) = 10)) := by rw [q] <;> decide
    have a567 : (((x1 &&& 15) = 5) ∨ ((x1 &&& 15) = 6)) ∨ ((x1 &&& 15) = 7) := by rw [q] <;> decide
    have a8 : ¬ ((x1 &&& 15) = 8) := by rw [q] <;> decide
    have a9 : ¬ ((x1 &&& 15) = 9) := by rw [q] <;> decide
    have a10 : ¬ ((x1 &&& 15) = 10) := by rw [q] <;> decide
    have ac : ¬ (((((x1 &&& 15) = 12) ∨ ((x1 &&& 15) = 13)) ∨ ((x1 &&& 15) = 14)) ∨ ((x1 &&& 15) = 15)) := by rw [q] <;> decide
    have ad : ¬ (((x1 &&& 15) = 12) ∨ ((x1 &&& 15) = 13)) := by rw [q] <;> decide
    have ae : ¬ (((x1 &&& 15) = 14) ∨ ((x1 &&& 15) = 15)) := by rw [q] <;> decide
    simp only [if_neg a0, if_neg a1, if_neg a2, if_neg a3, if_neg a310, if_pos a567, if_neg a8, if_neg a9, if_neg a10, if_neg ac, if_neg ad, if_neg ae]
    rw [shifted_eq τ okt x1 n a567]
    refine ltr_P (ltl_P ?_)
    exact RP_i rfl (R_x2_shifted h n _ hg)
  · have a0 : ¬ ((x1 &&& 15) = 0) := by rw [q] <;> decide
    have a1 : ¬ ((x1 &&& 15) = 1) := by rw [q] <;> decide
    have a2 : ¬ ((x1 &&& 15) = 2) := by rw [q] <;> decide
    have a3 : ¬ ((x1 &&& 15) = 3) := by rw [q] <;> decide
    have a310 : ¬ (((x1 &&& 15) = 3) ∨ ((x1 &&& 15) = 10)) := by rw [q] <;> decide
    have a567 : (((x1 &&& 15) = 5) ∨ ((x1 &&& 15) = 6)) ∨ ((x1 &&& 15) = 7) := by rw [q] <;> decide
    have a8 : ¬ ((x1 &&& 15) = 8) := by rw [q] <;> decide
    have a9 : ¬ ((x1 &&& 15) = 9) := by rw [q] <;> decide
    have a10 : ¬ ((x1 &&& 15) = 10) := by rw [q] <;> decide
    have ac : ¬ (((((x1 &&& 15) = 12) ∨ ((x1 &&& 15) = 13)) ∨ ((x1 &&& 15) = 14)) ∨ ((x1 &&& 15) = 15)) := by rw [q] <;> decide
    have ad : ¬ (((x1 &&& 15) = 12) ∨ ((x1 &&& 15) = 13)) := by rw [q] <;> decide
    have ae : ¬ (((x1 &&& 15) = 14) ∨ ((x1 &&& 15) = 15)) := by rw [q] <;> decide
    simp only [if_neg a0, if_neg a1, if_neg a2, if_neg a3, if_neg a310, if_pos a567, if_neg a8, if_neg a9, if_neg a10, if_neg ac, if_neg ad, if_neg ae]
    rw [shifted_eq τ okt x1 n a567]
    refine ltr_P (ltl_P ?_)
    exact RP_i rfl (R_x2_shifted h n _ hg)
  · have a0 : ¬ ((x1 &&& 15) = 0) := by rw [q] <;> decide
    have a1 : ¬ ((x1 &&& 15) = 1) := by rw [q] <;> decide
    have a2 : ¬ ((x1 &&& 15) = 2) := by rw [q] <;> decide
    have a3 : ¬ ((x1 &&& 15) = 3) := by rw [q] <;> decide
    have a310 : ¬ (((x1 &&& 15) = 3) ∨ ((x1 &&& 15) = 10)) := by rw [q] <;> decide
    have a567 : (((x1 &&& 15) = 5) ∨ ((x1 &&& 15) = 6)) ∨ ((x1 &&& 15) = 7) := by rw [q] <;> decide
    have a8 : ¬ ((x1 &&& 15) = 8) := by rw [q] <;> decide
    have a9 : ¬ ((x1 &&& 15) = 9) := by rw [q] <;> decide
    have a10 : ¬ ((x1 &&& 15) = 10) := by rw [q] <;> decide
    have ac : ¬ (((((x1 &&& 15) = 12) ∨ ((x1 &&& 15) = 13)) ∨ ((x1 &&& 15) = 14)) ∨ ((x1 &&& 15) = 15)) := by rw [q] <;> decide
    have ad : ¬ (((x1 &&& 15) = 12) ∨ ((x1 &&& 15) = 13)) := by rw [q] <;> decide
    have ae : ¬ (((x1 &&& 15) = 14) ∨ ((x1 &&& 15) = 15)) := by rw [q] <;> decide
    simp only [if_neg a0, if_neg a1, if_neg a2, if_neg a3, if_neg a310, if_pos a567, if_neg a8, if_neg a9, if_neg a10, if_neg ac, if_neg ad, if_neg ae]
    rw [shifted_eq τ okt x1 n a567]
    refine ltr_P (ltl_P ?_)
    exact RP_i rfl (R_x2_shifted h n _ hg)
  · have a0 : ¬ ((x1 &&& 15) = 0) := by rw [q] <;> decide
    have a1 : ¬ ((x1 &&& 15) = 1) := by rw [q] <;> decide
    have a2 : ¬ ((x1 &&& 15) = 2) := by rw [q] <;> decide
    have a3 : ¬ ((x1 &&& 15) = 3) := by rw [q] <;> decide
    have a310 : ¬ (((x1 &&& 15) = 3) ∨ ((x1 &&& 15) = 10)) := by rw [q] <;> decide
    have a567 : ¬ ((((x1 &&& 15) = 5) ∨ ((x1 &&& 15) = 6)) ∨ ((x1 &&& 15) = 7)) := by rw [q] <;> decide
    have a8 : (x1 &&& 15) = 8 := by rw [q] <;> decide
    have a9 : ¬ ((x1 &&& 15) = 9) := by rw [q] <;> decide
    have a10 : ¬ ((x1 &&& 15) = 10) := by rw [q] <;> decide
    have ac : ¬ (((((x1 &&& 15) = 12) ∨ ((x1 &&& 15) = 13)) ∨ ((x1 &&& 15) = 14)) ∨ ((x1 &&& 15) = 15)) := by rw [q] <;> decide
    have ad : ¬ (((x1 &&& 15) = 12) ∨ ((x1 &&& 15) = 13)) := by rw [q] <;> decide
    have ae : ¬ (((x1 &&& 15) = 14) ∨ ((x1 &&& 15) = 15)) := by rw [q] <;> decide
    simp only [if_neg a0, if_neg a1, if_neg a2, if_neg a3, if_neg a310, if_neg a567, if_pos a8, if_neg a9, if_neg a10, if_neg ac, if_neg ad, if_neg ae]
    exact ltP_P (R_alone h ok h6 h7 x1 hk) (fun v s t h => RP_i rfl h)
  · have a0 : ¬ ((x1 &&& 15) = 0) := by rw [q] <;> decide
    have a1 : ¬ ((x1 &&& 15) = 1) := by rw [q] <;> decide
    have a2 : ¬ ((x1 &&& 15) = 2) := by rw [q] <;> decide
    have a3 : ¬ ((x1 &&& 15) = 3) := by rw [q] <;> decide
    have a310 : ¬ (((x1 &&& 15) = 3) ∨ ((x1 &&& 15) = 10)) := by rw [q] <;> decide
    have a567 : ¬ ((((x1 &&& 15) = 5) ∨ ((x1 &&& 15) = 6)) ∨ ((x1 &&& 15) = 7)) := by rw [q] <;> decide
    have a8 : ¬ ((x1 &&& 15) = 8) := by rw [q] <;> decide
    have a9 : (x1 &&& 15) = 9 := by rw [q] <;> decide
    have a10 : ¬ ((x1 &&& 15) = 10) := by rw [q] <;> decide
    have ac : ¬ (((((x1 &&& 15) = 12) ∨ ((x1 &&& 15) = 13)) ∨ ((x1 &&& 15) = 14)) ∨ ((x1 &&& 15) = 15)) := by rw [q] <;> decide
    have ad : ¬ (((x1 &&& 15) = 12) ∨ ((x1 &&& 15) = 13)) := by rw [q] <;> decide
    have ae : ¬ (((x1 &&& 15) = 14) ∨ ((x1 &&& 15) = 15)) := by rw [q] <;> decide
    simp only [if_neg a0, if_neg a1, if_neg a2, if_neg a3, if_neg a310, if_neg a567, if_neg a8, if_pos a9, if_neg a10, if_neg ac, if_neg ad, if_neg ae]
    exact ltP_P (R_indirect h ok x1) (fun v s t h => RP_i rfl h)
  · have a0 : ¬ ((x1 &&& 15) = 0) := by rw [q] <;> decide
    have a1 : ¬ ((x1 &&& 15) = 1) := by rw [q] <;> decide
    have a2 : ¬ ((x1 &&& 15) = 2) := by rw [q] <;> decide
    have a3 : ¬ ((x1 &&& 15) = 3) := by rw [q] <;> decide
    have a310 : ((x1 &&& 15) = 3) ∨ ((x1 &&& 15) = 10) := by rw [q] <;> decide
    have a567 : ¬ ((((x1 &&& 15) = 5) ∨ ((x1 &&& 15) = 6)) ∨ ((x1 &&& 15) = 7)) := by rw [q] <;> decide
    have a8 : ¬ ((x1 &&& 15) = 8) := by rw [q] <;> decide
    have a9 : ¬ ((x1 &&& 15) = 9) := by rw [q] <;> decide
    have a10 : (x1 &&& 15) = 10 := by rw [q] <;> decide
    have ac : ¬ (((((x1 &&& 15) = 12) ∨ ((x1 &&& 15) = 13)) ∨ ((x1 &&& 15) = 14)) ∨ ((x1 &&& 15) = 15)) := by rw [q] <;> decide
    have ad : ¬ (((x1 &&& 15) = 12) ∨ ((x1 &&& 15) = 13)) := by rw [q] <;> decide
    have ae : ¬ (((x1 &&& 15) = 14) ∨ ((x1 &&& 15) = 15)) := by rw [q] <;> decide
    simp only [if_neg a0, if_neg a1, if_neg a2, if_neg a3, if_pos a310, if_neg a567, if_neg a8, if_neg a9, if_pos a10, if_neg ac, if_neg ad, if_neg ae]
    refine ltl_P ?_
    refine ltr_P (ltr_P (ltr_P (ltr_P ?_)))
    rw [ififf (dec_e hv).2, (dec_e hv).1]
    refine ltr_P ?_
    rw [by_eq τ _ _ rg01_ite]
    refine ltS_P (R_x2_by h _ _) (fun s t h => ?_)
    exact ltS_P (R_reg h rfl hg) (fun s t h => RP_i rfl h)
  · have a0 : ¬ ((x1 &&& 15) = 0) := by rw [q] <;> decide
    have a1 : ¬ ((x1 &&& 15) = 1) := by rw [q] <;> decide
    have a2 : ¬ ((x1 &&& 15) = 2) := by rw [q] <;> decide
    have a3 : ¬ ((x1 &&& 15) = 3) := by rw [q] <;> decide
    have a310 : ¬ (((x1 &&& 15) = 3) ∨ ((x1 &&& 15) = 10)) := by rw [q] <;> decide
    have a567 : ¬ ((((x1 &&& 15) = 5) ∨ ((x1 &&& 15) = 6)) ∨ ((x1 &&& 15) = 7)) := by rw [q] <;> decide
    have a8 : ¬ ((x1 &&& 15) = 8) := by rw [q] <;> decide
    have a9 : ¬ ((x1 &&& 15) = 9) := by rw [q] <;> decide
    have a10 : ¬ ((x1 &&& 15) = 10) := by rw [q] <;> decide
    have ac : ¬ (((((x1 &&& 15) = 12) ∨ ((x1 &&& 15) = 13)) ∨ ((x1 &&& 15) = 14)) ∨ ((x1 &&& 15) = 15)) := by rw [q] <;> decide
    have ad : ¬ (((x1 &&& 15) = 12) ∨ ((x1 &&& 15) = 13)) := by rw [q] <;> decide
    have ae : ¬ (((x1 &&& 15) = 14) ∨ ((x1 &&& 15) = 15)) := by rw [q] <;> decide
    simp only [if_neg a0, if_neg a1, if_neg a2, if_neg a3, if_neg a310, if_neg a567, if_neg a8, if_neg a9, if_neg a10, if_neg ac, if_neg ad, if_neg ae]
    exact RP_i rfl h
  · have a0 : ¬ ((x1 &&& 15) = 0) := by rw [q] <;> decide
    have a1 : ¬ ((x1 &&& 15) = 1) := by rw [q] <;> decide
    have a2 : ¬ ((x1 &&& 15) = 2) := by rw [q] <;> decide
    have a3 : ¬ ((x1 &&& 15) = 3) := by rw [q] <;> decide
    have a310 : ¬ (((x1 &&& 15) = 3) ∨ ((x1 &&& 15) = 10)) := by rw [q] <;> decide
    have a567 : ¬ ((((x1 &&& 15) = 5) ∨ ((x1 &&& 15) = 6)) ∨ ((x1 &&& 15) = 7)) := by rw [q] <;> decide
    have a8 : ¬ ((x1 &&& 15) = 8) := by rw [q] <;> decide
    have a9 : ¬ ((x1 &&& 15) = 9) := by rw [q] <;> decide
    have a10 : ¬ ((x1 &&& 15) = 10) := by rw [q] <;> decide
    have ac : ((((x1 &&& 15) = 12) ∨ ((x1 &&& 15) = 13)) ∨ ((x1 &&& 15) = 14)) ∨ ((x1 &&& 15) = 15) := by rw [q] <;> decide
    have ad : ((x1 &&& 15) = 12) ∨ ((x1 &&& 15) = 13) := by rw [q] <;> decide
    have ae : ¬ (((x1 &&& 15) = 14) ∨ ((x1 &&& 15) = 15)) := by rw [q] <;> decide
    simp only [if_neg a0, if_neg a1, if_neg a2, if_neg a3, if_neg a310, if_neg a567, if_neg a8, if_neg a9, if_neg a10, if_pos ac, if_pos ad, if_neg ae]
    exact R_jmp h okt (bit2_of q (by decide))
  · have a0 : ¬ ((x1 &&& 15) = 0) := by rw [q] <;> decide
    have a1 : ¬ ((x1 &&& 15) = 1) := by rw [q] <;> decide
    have a2 : ¬ ((x1 &&& 15) = 2) := by rw [q] <;> decide
    have a3 : ¬ ((x1 &&& 15) = 3) := by rw [q] <;> decide
    have a310 : ¬ (((x1 &&& 15) = 3) ∨ ((x1 &&& 15) = 10)) := by rw [q] <;> decide
    have a567 : ¬ ((((x1 &&& 15) = 5) ∨ ((x1 &&& 15) = 6)) ∨ ((x1 &&& 15) = 7)) := by rw [q] <;> decide
    have a8 : ¬ ((x1 &&& 15) = 8) := by rw [q] <;> decide
    have a9 : ¬ ((x1 &&& 15) = 9) := by rw [q] <;> decide
    have a10 : ¬ ((x1 &&& 15) = 10) := by rw [q] <;> decide
    have ac : ((((x1 &&& 15) = 12) ∨ ((x1 &&& 15) = 13)) ∨ ((x1 &&& 15) = 14)) ∨ ((x1 &&& 15) = 15) := by rw [q] <;> decide
    have ad : ((x1 &&& 15) = 12) ∨ ((x1 &&& 15) = 13) := by rw [q] <;> decide
    have ae : ¬ (((x1 &&& 15) = 14) ∨ ((x1 &&& 15) = 15)) := by rw [q] <;> decide
    simp only [if_neg a0, if_neg a1, if_neg a2, if_neg a3, if_neg a310, if_neg a567, if_neg a8, if_neg a9, if_neg a10, if_pos ac, if_pos ad, if_neg ae]
    exact R_jmp h okt (bit2_of q (by decide))
  · have a0 : ¬ ((x1 &&& 15) = 0) := by rw [q] <;> decide
    have a1 : ¬ ((x1 &&& 15) = 1) := by rw [q] <;> decide
    have a2 : ¬ ((x1 &&& 15) = 2) := by rw [q] <;> decide
    have a3 : ¬ ((x1 &&& 15) = 3) := by rw [q] <;> decide
    have a310 : ¬ (((x1 &&& 15) = 3) ∨ ((x1 &&& 15) = 10)) := by rw [q] <;> decide
    have a567 : ¬ ((((x1 &&& 15) = 5) ∨ ((x1 &&& 15) = 6)) ∨ ((x1 &&& 15) = 7)) := by rw [q] <;> decide
    have a8 : ¬ ((x1 &&& 15) = 8) := by rw [q] <;> decide
    have a9 : ¬ ((x1 &&& 15) = 9) := by rw [q] <;> decide
    have a10 : ¬ ((x1 &&& 15) = 10) := by rw [q] <;> decide
    have ac : ((((x1 &&& 15) = 12) ∨ ((x1 &&& 15) = 13)) ∨ ((x1 &&& 15) = 14)) ∨ ((x1 &&& 15) = 15) := by rw [q] <;> decide
    have ad : ¬ (((x1 &&& 15) = 12) ∨ ((x1 &&& 15) = 13)) := by rw [q] <;> decide
    have ae : ((x1 &&& 15) = 14) ∨ ((x1 &&& 15) = 15) := by rw [q] <;> decide
    simp only [if_neg a0, if_neg a1, if_neg a2, if_neg a3, if_neg a310, if_neg a567, if_neg a8, if_neg a9, if_neg a10, if_pos ac, if_neg ad, if_pos ae]
    exact R_call h ok okt (by rw [bit2_of q (w := 2) (by decide)]; decide)
  · have a0 : ¬ ((x1 &&& 15) = 0) := by rw [q] <;> decide
    have a1 : ¬ ((x1 &&& 15) = 1) := by rw [q] <;> decide
    have a2 : ¬ ((x1 &&& 15) = 2) := by rw [q] <;> decide
    have a3 : ¬ ((x1 &&& 15) = 3) := by rw [q] <;> decide
    have a310 : ¬ (((x1 &&& 15) = 3) ∨ ((x1 &&& 15) = 10)) := by rw [q] <;> decide
    have a567 : ¬ ((((x1 &&& 15) = 5) ∨ ((x1 &&& 15) = 6)) ∨ ((x1 &&& 15) = 7)) := by rw [q] <;> decide
    have a8 : ¬ ((x1 &&& 15) = 8) := by rw [q] <;> decide
    have a9 : ¬ ((x1 &&& 15) = 9) := by rw [q] <;> decide
    have a10 : ¬ ((x1 &&& 15) = 10) := by rw [q] <;> decide
    have ac : ((((x1 &&& 15) = 12) ∨ ((x1 &&& 15) = 13)) ∨ ((x1 &&& 15) = 14)) ∨ ((x1 &&& 15) = 15) := by rw [q] <;> decide
    have ad : ¬ (((x1 &&& 15) = 12) ∨ ((x1 &&& 15) = 13)) := by rw [q] <;> decide
    have ae : ((x1 &&& 15) = 14) ∨ ((x1 &&& 15) = 15) := by rw [q] <;> decide
    simp only [if_neg a0, if_neg a1, if_neg a2, if_neg a3, if_neg a310, if_neg a567, if_neg a8, if_neg a9, if_neg a10, if_pos ac, if_neg ad, if_pos ae]
    exact R_call h ok okt (by rw [bit2_of q (w := 2) (by decide)]; decide)
