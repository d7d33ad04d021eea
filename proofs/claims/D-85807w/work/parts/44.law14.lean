/-! PLAIN LAW 14: stores into the EEPROM; all stores -/
set_option maxRecDepth 100000
theorem R_rom {b : Bool} {σ τ σ2 τ2 : Sg} (h : R b σ τ) (q0 : ∀ j, j ≠ 21 → j ≠ 22 → σ2 0 j = σ 0 j ∧ τ2 0 j = τ 0 j) (q21 : σ2 0 21 = τ2 0 21) (q22 : σ2 0 22 = τ2 0 22) (n21 : 0 ≤ (σ2 0 21).toInt) (n22 : 0 ≤ (σ2 0 22).toInt) (qd : ∀ j, j ≠ 63 → σ2 1 j = σ 1 j ∧ τ2 1 j = τ 1 j) (qr : ∀ k, 2 ≤ k → σ2 k = σ k ∧ τ2 k = τ k) (e8 : σ2 1 63 &&& 8 = σ2 1 63) (ee : τ2 1 63 = ((σ2 1 63 ||| (if 0 < σ2 0 21 then 4 else 0)) ||| (if 0 < σ2 0 22 then 2 else 0))) : R b σ2 τ2 := by
  refine R_mk ?_ ?_ ?_ ?_ ?_ ?_ ?_ ee e8 ?_ ?_ ?_ ?_ ?_ ?_ ?_ ?_ ?_ ?_
  · intro j hj
    by_cases c1 : j = 21
    · rw [c1]; exact q21
    by_cases c2 : j = 22
    · rw [c2]; exact q22
    rw [(q0 j c1 c2).1, (q0 j c1 c2).2]; exact h.sc j hj
  · intro q
    rw [(q0 1 (by decide) (by decide)).1, (q0 1 (by decide) (by decide)).2]; exact h.mo q
  · intro j hj
    have c : j ≠ 63 := by intro q; subst q; cases hj
    rw [(qd j c).1, (qd j c).2]; exact h.da j hj
  · rw [(qr 2 (by decide)).1, (qr 2 (by decide)).2]; exact h.fl
  · rw [(qr 3 (by decide)).1, (qr 3 (by decide)).2]; exact h.er
  · rw [(qr 4 (by decide)).1, (qr 4 (by decide)).2]; exact h.kp
  · rw [(qd 192 (by decide)).2, h.s2]
    exact (x6s_0 σ2 σ (q0 18 (by decide) (by decide)).1 (q0 32 (by decide) (by decide)).1 (q0 11 (by decide) (by decide)).1 (q0 31 (by decide) (by decide)).1 (q0 33 (by decide) (by decide)).1).symm
  · rw [(qr 5 (by decide)).1, (qr 5 (by decide)).2, (qr 7 (by decide)).2]; exact h.bu
  · rw [(qr 6 (by decide)).1, (qr 6 (by decide)).2, (q0 19 (by decide) (by decide)).1, (q0 34 (by decide) (by decide)).1]; exact h.ri
  · intro j hj
    by_cases c1 : j = 21
    · rw [c1]; exact n21
    by_cases c2 : j = 22
    · rw [c2]; exact n22
    rw [(q0 j c1 c2).1]; exact h.wi j hj
  · rw [(qd 53 (by decide)).1]; exact h.d53
  · rw [(qd 85 (by decide)).1]; exact h.d85
  · rw [(qd 87 (by decide)).1]; exact h.d87
  · rw [(qd 84 (by decide)).1, (qd 96 (by decide)).1]; exact h.dg
  · intro j h1 h2 h3
    by_cases c : j = 63
    · subst c; cases h3
    · rw [(qd j c).1]; exact h.un j h1 h2 h3
  · rw [(q0 30 (by decide) (by decide)).1]; exact h.rs
  · rw [(q0 6 (by decide) (by decide)).1, (q0 7 (by decide) (by decide)).1]; exact h.sf
theorem R_er {b : Bool} {σ τ : Sg} (h : R b σ τ) (i : Nat) (v : Int32) : R b (sst σ 3 i v) (sst τ 3 i v) := by
  refine R_mk h.sc h.mo h.da h.fl ?_ h.kp h.s2 h.ee h.e8 h.bu h.ri h.wi h.d53 h.d85 h.d87 h.dg h.un h.rs h.sf
  funext j
  rw [sst_get, sst_get, h.er]
def ek (p q r : Int32) : Prop := (p = 0 ∨ p = 8) ∧ (q = 0 ∨ q = 4) ∧ (r = 0 ∨ r = 2)
theorem ee_p {p q r p' : Int32} (h : ek p q r) (hp : p' = 0 ∨ p' = 8) : ((((p ||| q) ||| r) &&& 247) ||| p') = (p' ||| q) ||| r := by
  obtain ⟨h1, h2, h3⟩ := h
  rcases hp with rfl | rfl <;> rcases h1 with rfl | rfl <;> rcases h2 with rfl | rfl <;> rcases h3 with rfl | rfl <;> decide
theorem ee_4 {p q r : Int32} (h : ek p q r) : (((p ||| q) ||| r) ||| 4) = (p ||| 4) ||| r := by
  obtain ⟨h1, h2, h3⟩ := h
  rcases h1 with rfl | rfl <;> rcases h2 with rfl | rfl <;> rcases h3 with rfl | rfl <;> decide
theorem ee_w {p q r : Int32} (h : ek p q r) : ((((p ||| q) ||| r) &&& 251) ||| 2) = (p ||| 0) ||| 2 := by
  obtain ⟨h1, h2, h3⟩ := h
  rcases h1 with rfl | rfl <;> rcases h2 with rfl | rfl <;> rcases h3 with rfl | rfl <;> decide
theorem ee_0 {p q r : Int32} (h : ek p q r) : (((p ||| q) ||| r) &&& 251) = (p ||| 0) ||| r := by
  obtain ⟨h1, h2, h3⟩ := h
  rcases h1 with rfl | rfl <;> rcases h2 with rfl | rfl <;> rcases h3 with rfl | rfl <;> decide
theorem ee_r {p q r : Int32} (h : ek p q r) : (((p ||| q) ||| r) &&& 253) = (p ||| q) ||| 0 := by
  obtain ⟨h1, h2, h3⟩ := h
  rcases h1 with rfl | rfl <;> rcases h2 with rfl | rfl <;> rcases h3 with rfl | rfl <;> decide
theorem ee_is4 {p q r : Int32} (h : ek p q r) : (((p ||| q) ||| r) &&& 4) = 0 ↔ q = 0 := by
  obtain ⟨h1, h2, h3⟩ := h
  rcases h1 with rfl | rfl <;> rcases h2 with rfl | rfl <;> rcases h3 with rfl | rfl <;> decide
theorem ee_is2 {p q r : Int32} (h : ek p q r) : (((p ||| q) ||| r) &&& 2) = 0 ↔ r = 0 := by
  obtain ⟨h1, h2, h3⟩ := h
  rcases h1 with rfl | rfl <;> rcases h2 with rfl | rfl <;> rcases h3 with rfl | rfl <;> decide
theorem ee_k {b : Bool} {σ τ : Sg} (h : R b σ τ) : ek (σ 1 63) (if 0 < σ 0 21 then 4 else 0) (if 0 < σ 0 22 then 2 else 0) := ⟨e8_cases h.e8, o2, o2⟩
theorem pos_iff {x : Int32} (h : 0 ≤ x.toInt) : (0 < x) ↔ ¬ x = 0 := by
  rw [i_lt, i_eq, ti0]; omega
theorem R_is2 {b : Bool} {σ τ : Sg} (h : R b σ τ) : (τ 1 63 &&& 2 = 0) ↔ σ 0 22 = 0 := by
  rw [h.ee, ee_is2 (ee_k h)]
  have h2 := pos_iff (h.wi 22 rfl)
  by_cases q : σ 0 22 = 0
  · rw [if_neg (fun z => h2.mp z q)]; exact ⟨fun _ => q, fun _ => rfl⟩
  · rw [if_pos (h2.mpr q)]; exact ⟨fun z => absurd z (by decide), fun z => absurd z q⟩
theorem R_is4 {b : Bool} {σ τ : Sg} (h : R b σ τ) : (τ 1 63 &&& 4 = 0) ↔ ¬ 0 < σ 0 21 := by
  rw [h.ee, ee_is4 (ee_k h)]
  by_cases q : 0 < σ 0 21
  · rw [if_pos q]; exact ⟨fun z => absurd z (by decide), fun z => absurd q z⟩
  · rw [if_neg q]; exact ⟨fun _ => q, fun _ => rfl⟩
theorem R_63 {b : Bool} {σ τ : Sg} (h : R b σ τ) (v : Int32) : R b (sst σ 1 63 (v &&& 8)) (sst τ 1 63 (((τ 1 63) &&& 247) ||| (v &&& 8))) := by
  have hp : v &&& 8 = 0 ∨ v &&& 8 = 8 := and_pow v 3 (by decide) (by decide +kernel)
  refine R_rom h (fun j _ _ => ⟨rfl, rfl⟩) (h.sc 21 rfl) (h.sc 22 rfl) (h.wi 21 rfl) (h.wi 22 rfl) (fun j hj => ⟨sst_ne_j _ _ hj, sst_ne_j _ _ hj⟩) (fun k hk => ⟨sst_row _ _ (by omega), sst_row _ _ (by omega)⟩) ?_ ?_
  · rw [sst_eq]; rcases hp with q | q <;> rw [q] <;> decide
  · rw [sst_eq, sst_eq, h.ee, ee_p (ee_k h) hp, sst_row σ _ (by decide)]
theorem R_21 {b : Bool} {σ τ : Sg} (h : R b σ τ) : R b (sst σ 0 21 4) (sst (sst τ 1 63 ((τ 1 63) ||| 4)) 0 21 4) := by
  refine R_rom h (fun j h1 _ => ⟨sst_ne_j _ _ h1, (sst_ne_j _ _ h1).trans rfl⟩) rfl (h.sc 22 rfl) (by rw [sst_eq]; decide) (h.wi 22 rfl) (fun j hj => ⟨rfl, (sst_ne_k _ _ (by decide)).trans (sst_ne_j _ _ hj)⟩) (fun k hk => ⟨sst_row _ _ (by omega), (sst_row _ _ (by omega)).trans (sst_row _ _ (by omega))⟩) h.e8 ?_
  show (sst τ 1 63 ((τ 1 63) ||| 4)) 1 63 = _
  rw [sst_eq, h.ee, ee_4 (ee_k h)]
  rfl
theorem R_wr {b : Bool} {σ τ : Sg} (h : R b σ τ) : R b (sst (sst σ 0 22 3400) 0 21 0) (sst (sst (sst τ 1 63 (((τ 1 63) &&& 251) ||| 2)) 0 21 0) 0 22 3400) := by
  refine R_rom h ?_ rfl rfl ?_ ?_ ?_ ?_ h.e8 ?_
  · intro j h1 h2
    exact ⟨(sst_ne_j _ _ h1).trans (sst_ne_j _ _ h2), (sst_ne_j _ _ h2).trans (sst_ne_j _ _ h1)⟩
  · rw [sst_eq]; decide
  · rw [sst_ne_j _ _ (by decide), sst_eq]; decide +kernel
  · intro j hj; exact ⟨rfl, ((sst_ne_k _ _ (by decide)).trans (sst_ne_k _ _ (by decide))).trans (sst_ne_j _ _ hj)⟩
  · intro k hk
    exact ⟨(sst_row _ _ (by omega)).trans (sst_row _ _ (by omega)), ((sst_row _ _ (by omega)).trans (sst_row _ _ (by omega))).trans (sst_row _ _ (by omega))⟩
  · show (sst τ 1 63 (((τ 1 63) &&& 251) ||| 2)) 1 63 = _
    rw [sst_eq, h.ee, ee_w (ee_k h)]
    rfl
theorem xstore63 (σ : Sg) (v : Int32) : x2_store σ 63 v = x7_store σ 63 (v &&& 255) := rfl
theorem mstore63 (σ : Sg) (v : Int32) : m_store σ 63 v = m_storeRom σ v := rfl
theorem R_more' {b : Bool} {σ τ : Sg} (h : R b σ τ) (k : Int32) : R b (sst σ 0 1 ((σ 0 1) + k)) (sst τ 0 1 ((τ 0 1) + k)) := by
  cases b with
  | true => exact R_more h (by rw [h.mo rfl])
  | false =>
    refine R_mk ?_ (fun q => Bool.noConfusion q) h.da h.fl h.er h.kp h.s2 h.ee h.e8 h.bu h.ri ?_ h.d53 h.d85 h.d87 h.dg h.un h.rs h.sf
    · intro i hi
      have : i ≠ 1 := by intro q; subst q; cases hi
      rw [sst_ne_j _ _ this, sst_ne_j _ _ this]; exact h.sc i hi
    · intro i hi
      have : i ≠ 1 := by intro q; subst q; cases hi
      rw [sst_ne_j _ _ this]; exact h.wi i hi
theorem R_store_63 {b : Bool} {σ τ : Sg} (h : R b σ τ) {v : Int32} (hv : rg 0 255 v) : R b (x2_store σ 63 v) (m_store τ 63 v) := by
  rw [xstore63, mstore63, m255 hv]
  unfold x7_store m_storeRom
  rw [if_pos rfl]
  have z28 : ((if 0 < σ 0 21 then (1 : Int32) else 0) = 0) ↔ ((if τ 1 63 &&& 4 = 0 then (0 : Int32) else 1) = 0) := by
    by_cases q : 0 < σ 0 21
    · rw [if_pos q, if_neg (fun z => (R_is4 h).mp z q)]
    · rw [if_neg q, if_pos ((R_is4 h).mpr q)]
  refine ltl_R (ltr_R ?_)
  generalize (if 0 < σ 0 21 then (1 : Int32) else 0) = z at z28 ⊢
  generalize (if τ 1 63 &&& 4 = 0 then (0 : Int32) else 1) = w at z28 ⊢
  refine ltS_R (R_63 h v) (fun s t h => ?_)
  refine ltS_R (ite_R (fun _ => h) (fun _ => R_21 h)) (fun s t h => ?_)
  have c2 : ((v &&& 2 = 0) ∨ ((z = 0) ∨ (¬ ((s 0 22) = 0)))) ↔ ((v &&& 2 = 0) ∨ ((w = 0) ∨ (¬ (((t 1 63) &&& 2) = 0)))) := by
    rw [z28, R_is2 h]
  refine ltS_R ?_ (fun s t h => ?_)
  · by_cases p : (v &&& 2 = 0) ∨ ((z = 0) ∨ (¬ ((s 0 22) = 0)))
    · rw [if_pos p, if_pos (c2.mp p)]; exact h
    · rw [if_neg p, if_neg (fun q => p (c2.mpr q)), h.da 64 rfl, h.da 65 rfl]
      exact R_wr (R_er h (t 1 65).toNatClampNeg (t 1 64))
  · have c3 : ((¬ ((v &&& 1) = 0)) ∧ ((s 0 22) = 0)) ↔ ¬ (((v &&& 1) = 0) ∨ (¬ (((t 1 63) &&& 2) = 0))) := by
      rw [R_is2 h]
      constructor
      · rintro ⟨p, q⟩ (r | r)
        · exact p r
        · exact r q
      · intro p
        refine ⟨fun q => p (Or.inl q), ?_⟩
        by_cases q : s 0 22 = 0
        · exact q
        · exact absurd (Or.inr q) p
    refine ltl_R (ltr_R ?_)
    by_cases p : (¬ ((v &&& 1) = 0)) ∧ ((s 0 22) = 0)
    · rw [if_pos p, if_neg (c3.mp p), h.da 65 rfl, h.er]
      refine R_more' (R_da h rfl (fun q => absurd q (by decide)) (fun q => absurd q (by decide)) (fun q => absurd q (by decide)) (fun q => absurd q (by decide)) (fun q => absurd q (by decide)) (fun _ _ q => by cases q)) 4
    · rw [if_neg p]
      by_cases q : ((v &&& 1) = 0) ∨ (¬ (((t 1 63) &&& 2) = 0))
      · rw [if_pos q]; exact h
      · exact absurd (c3.mpr q) p
theorem xstore64 (σ : Sg) (v : Int32) : x2_store σ 64 v = if (σ 0 22) = 0 then sst σ 1 64 (v &&& 255) else σ := rfl
theorem mstore64 (σ : Sg) (v : Int32) : m_store σ 64 v = if ((σ 1 63) &&& 2) = 0 then sst σ 1 64 v else σ := rfl
theorem xstore65 (σ : Sg) (v : Int32) : x2_store σ 65 v = if (σ 0 22) = 0 then sst σ 1 65 (v &&& 255) else σ := rfl
theorem mstore65 (σ : Sg) (v : Int32) : m_store σ 65 v = if ((σ 1 63) &&& 2) = 0 then sst σ 1 65 v else σ := rfl
theorem R_store_64 {b : Bool} {σ τ : Sg} (h : R b σ τ) {v : Int32} (hv : rg 0 255 v) : R b (x2_store σ 64 v) (m_store τ 64 v) := by
  rw [xstore64, mstore64, m255 hv]
  by_cases q : σ 0 22 = 0
  · rw [if_pos q, if_pos ((R_is2 h).mpr q)]
    exact R_da h rfl (fun q => absurd q (by decide)) (fun q => absurd q (by decide)) (fun q => absurd q (by decide)) (fun q => absurd q (by decide)) (fun q => absurd q (by decide)) (fun _ _ q => by cases q)
  · rw [if_neg q, if_neg (fun z => q ((R_is2 h).mp z))]; exact h
theorem R_store_65 {b : Bool} {σ τ : Sg} (h : R b σ τ) {v : Int32} (hv : rg 0 255 v) : R b (x2_store σ 65 v) (m_store τ 65 v) := by
  rw [xstore65, mstore65, m255 hv]
  by_cases q : σ 0 22 = 0
  · rw [if_pos q, if_pos ((R_is2 h).mpr q)]
    exact R_da h rfl (fun q => absurd q (by decide)) (fun q => absurd q (by decide)) (fun q => absurd q (by decide)) (fun q => absurd q (by decide)) (fun q => absurd q (by decide)) (fun _ _ q => by cases q)
  · rw [if_neg q, if_neg (fun z => q ((R_is2 h).mp z))]; exact h
