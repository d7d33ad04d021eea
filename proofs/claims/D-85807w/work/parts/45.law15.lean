/-! PLAIN LAW 15: all stores; the stack -/
set_option maxRecDepth 100000
theorem R_dap {b : Bool} {σ τ : Sg} (h : R b σ τ) {a v : Int32} (ha : rg 0 65535 a) (h53 : ¬ a = 53) (h63 : ¬ a = 63) (h84 : ¬ a = 84) (h85 : ¬ a = 85) (h87 : ¬ a = 87) (h96 : ¬ a = 96) (h192 : ¬ a = 192) (hu : ¬ a < 32 → a < 256 → uAt a.toNatClampNeg ≠ none) : R b (sst σ 1 a.toNatClampNeg v) (sst τ 1 a.toNatClampNeg v) := by
  obtain ⟨e, e2⟩ := rg_nI ha
  refine R_da h (okj_of ha h63 h192) (fun q => absurd q (tn_ne ha rfl (by decide) h53)) (fun q => absurd q (tn_ne ha rfl (by decide) h85)) (fun q => absurd q (tn_ne ha rfl (by decide) h87)) (fun q => absurd q (tn_ne ha rfl (by decide) h84)) (fun q => absurd q (tn_ne ha rfl (by decide) h96)) (fun h1 h2 h3 => absurd h3 (hu ?_ ?_))
  · rw [i_lt, show (32 : Int32).toInt = 32 by decide +kernel]; omega
  · rw [i_lt, ti256]; omega
theorem m_store_plain (τ : Sg) {a v : Int32} (ha : rg 0 65535 a) (h35 : ¬ a = 35) (h53 : ¬ a = 53) (h63 : ¬ a = 63) (h64 : ¬ (a = 64 ∨ a = 65)) (h84 : ¬ a = 84) (h85 : ¬ a = 85) (h87 : ¬ a = 87) (h96 : ¬ a = 96) (h192 : ¬ a = 192) (h193 : ¬ a = 193) (h198 : ¬ a = 198) : m_store τ a v = if a < 1280 then (if m_holds τ a = 0 then τ else sst τ 1 a.toNatClampNeg v) else τ := by
  unfold m_store
  by_cases q : a < 1280
  · rw [if_pos ⟨nneg ha, q⟩, if_pos q]
    refine lt_l ?_
    rw [if_neg h35, if_neg h53, if_neg h63, if_neg h64, if_neg h84, if_neg h85, if_neg h87, if_neg h96, if_neg h192, if_neg h193, if_neg h198]
    refine lt_l ?_
    exact ite_e (fun _ => rfl) (fun _ => rfl)
  · rw [if_neg (fun z => q z.2), if_neg q]
theorem R_store_plain {b : Bool} {σ τ : Sg} (h : R b σ τ) {a v : Int32} (ha : rg 0 65535 a) (hv : rg 0 255 v) (h35 : ¬ a = 35) (h53 : ¬ a = 53) (h63 : ¬ a = 63) (h64 : ¬ (a = 64 ∨ a = 65)) (h84 : ¬ a = 84) (h85 : ¬ a = 85) (h87 : ¬ a = 87) (h96 : ¬ a = 96) (h192 : ¬ a = 192) (h193 : ¬ a = 193) (h198 : ¬ a = 198) : R b (x2_store σ a v) (m_store τ a v) := by
  rw [m_store_plain τ ha h35 h53 h63 h64 h84 h85 h87 h96 h192 h193 h198]
  unfold x2_store
  rw [m255 hv]
  refine ltl_R ?_
  have n1 : ¬ ((a = 63 ∨ a = 64) ∨ a = 65) := by
    rintro ((q | q) | q)
    · exact h63 q
    · exact h64 (Or.inl q)
    · exact h64 (Or.inr q)
  have n2 : ¬ (a = 84 ∨ a = 85) := by
    rintro (q | q)
    · exact h84 q
    · exact h85 q
  have n3 : ¬ ((a = 192 ∨ a = 193) ∨ a = 198) := by
    rintro ((q | q) | q)
    · exact h192 q
    · exact h193 q
    · exact h198 q
  by_cases hr : (¬ (a < 32)) ∧ (a < 256)
  · rw [if_pos hr, if_pos (a256 hr.2), if_neg h35, if_neg h53, if_neg n1, if_neg n2, if_neg h87, if_neg h96, if_neg n3]
    have hu := uAt_int (x := a) ⟨ha.1, by have := i_lt.mp hr.2; rw [ti256] at this; omega⟩
    rw [if_neg h35, if_neg h53, if_neg n1, if_neg n2, if_neg h87, if_neg h96, if_neg n3] at hu
    refine ite_lR (fun c => ?_) (fun c => ?_)
    · rw [if_pos c] at hu
      refine ltl_R ?_
      have hh : m_holds τ a = 1 := by
        unfold m_holds
        refine if_pos ?_
        rcases c with ((q | q) | q) | q
        · exact Or.inl (Or.inl (Or.inl (Or.inl q)))
        · exact Or.inl (Or.inl (Or.inr q))
        · exact Or.inl (Or.inr q)
        · exact Or.inr q
      rw [hh, if_neg (show ¬ (1 : Int32) = 0 by decide)]
      unfold x3_store
      refine ltl_R ?_
      exact R_dap h ha h53 h63 h84 h85 h87 h96 h192 (fun _ _ => by rw [hu]; exact Option.some_ne_none _)
    · have hh : m_holds τ a = 0 := by
        unfold m_holds
        refine (if_neg ?_).trans (lt_l (if_neg ?_))
        · rintro ((((q | q) | q) | q) | q)
          · exact c (Or.inl (Or.inl (Or.inl q)))
          · exact h193 q
          · exact c (Or.inl (Or.inl (Or.inr q)))
          · exact c (Or.inl (Or.inr q))
          · exact c (Or.inr q)
        · rintro (q | q)
          · exact hr.1 q
          · exact q.1 hr.2
      rw [hh, if_pos rfl]; exact h
  · rw [if_neg hr]
    by_cases q : a < 1280
    · rw [if_pos q, if_pos q]
      have hh : m_holds τ a = 1 := by
        unfold m_holds
        split
        · rfl
        · refine lt_l (if_pos ?_)
          by_cases p : a < 32
          · exact Or.inl p
          · exact Or.inr ⟨fun z => hr ⟨p, z⟩, q⟩
      rw [hh, if_neg (show ¬ (1 : Int32) = 0 by decide)]
      refine ltl_R ?_
      exact R_dap h ha h53 h63 h84 h85 h87 h96 h192 (fun p1 p2 => absurd ⟨p1, p2⟩ hr)
    · rw [if_neg q, if_neg q]; exact h
theorem R_store {b : Bool} {σ τ : Sg} (h : R b σ τ) (ok : XOK σ) {a v : Int32} (ha : rg 0 65535 a) (hv : rg 0 255 v) : R b (x2_store σ a v) (m_store τ a v) := by
  by_cases h35 : a = 35
  · rw [h35]; exact R_store_35 h hv
  by_cases h53 : a = 53
  · rw [h53]; exact R_store_53 h hv
  by_cases h63 : a = 63
  · rw [h63]; exact R_store_63 h hv
  by_cases h64 : a = 64
  · rw [h64]; exact R_store_64 h hv
  by_cases h65 : a = 65
  · rw [h65]; exact R_store_65 h hv
  by_cases h84 : a = 84
  · rw [h84]; exact R_store_84 h ok hv
  by_cases h85 : a = 85
  · rw [h85]; exact R_store_85 h hv
  by_cases h87 : a = 87
  · rw [h87]; exact R_store_87 h hv
  by_cases h96 : a = 96
  · rw [h96]; exact R_store_96 h ok hv
  by_cases h192 : a = 192
  · rw [h192]; exact R_store_192 h hv
  by_cases h193 : a = 193
  · rw [h193]; exact R_store_193 h hv
  by_cases h198 : a = 198
  · rw [h198]; exact R_store_198 h hv
  exact R_store_plain h ha hv h35 h53 h63 (by rintro (q | q); exact h64 q; exact h65 q) h84 h85 h87 h96 h192 h193 h198
