/-! PLAIN LAW 19: the flash read -/
set_option maxRecDepth 100000
theorem code_eq (σ : Sg) {v : Int32} (hv : rg 0 2047 v) : m_code σ v = x10_word σ v := by
  unfold m_code x10_word
  rw [m2047 hv]; rfl
theorem even_eq {x : Int32} (h : rg 0 65535 x) : (x - x / 2 * 2 = 0) ↔ (x &&& 1 = 0) := by
  obtain ⟨e, e2⟩ := rg_nI h
  have h2 := h.2
  have k := pk_rem (a := x.toNatClampNeg) (d := 2) (by omega) (by decide) (by decide)
  rw [← e] at k
  have k2 : x - x / 2 * 2 = nI (x.toNatClampNeg % 2) := k
  rw [k2, i_eq, i_eq, ti0, and1, nI_toInt (by omega), ← e2]
  omega
theorem done_eq (σ : Sg) (ok : XOK σ) : x10_done σ = sst σ 1 87 ((σ 1 87) &&& 224) := by
  unfold x10_done
  refine lt_l ?_
  rw [byte_and (p := -32) (q := 224) (xr_1 ok 87) (by decide)]
theorem R_done {b : Bool} {σ τ : Sg} (h : R b σ τ) (ok : XOK σ) : R b (x10_done σ) (sst τ 1 87 ((τ 1 87) &&& 224)) := by
  rw [done_eq σ ok, h.da 87 rfl]
  refine R_da h rfl (fun q => absurd q (by decide)) (fun q => absurd q (by decide)) (fun _ => ?_) (fun q => absurd q (by decide)) (fun q => absurd q (by decide)) (fun _ _ q => by cases q)
  have h2 := h.d87
  rw [h.da 87 rfl] at h2
  rw [bit_mask _ 5 (by decide) (by decide +kernel)] at h2 ⊢
  rw [gl_and, h2]; rfl
theorem mode4 {w : Int32} (hw : rg 0 255 w) : (w &&& 30 = 8) ↔ ((w >>> (1 : Int32)) &&& 15 = 4) := by
  have hf : ∀ n : Fin 256, (nI n.val &&& 30 = 8) ↔ ((nI n.val >>> (1 : Int32)) &&& 15 = 4) := by decide +kernel
  obtain ⟨e, e2⟩ := rg_nI hw
  have := hw.2
  rw [e]; exact hf ⟨w.toNatClampNeg, by omega⟩
theorem read_tail (σ : Sg) {a v : Int32} (ha : rg 0 65535 a) (hv : rg 0 2047 v) : (lt (x10_word σ v) fun v126 => lt ((if (a &&& 1) = 0 then (v126 &&& 255) else (v126 >>> (8 : Int32))) : Int32) fun z131 => (z131, σ)) = lt ((if ((a) - (a) / (2) * (2)) = 0 then ((m_code σ v) &&& 255) else ((m_code σ v) >>> (8 : Int32))) : Int32) fun z142 => (z142, σ) := by
  refine lt_l ?_
  rw [code_eq σ hv]
  exact lt_e (ififf (even_eq ha).symm) (fun _ => rfl)
theorem R_read {b : Bool} {σ τ : Sg} (h : R b σ τ) (ok : XOK σ) {a k : Int32} (ha : rg 0 65535 a) (hk : k = if τ 0 36 < 1536 then 0 else 1) : RP b (x10_read σ a k) (m_flashByte τ a) := by
  have h26 : σ 0 26 = τ 0 26 := h.sc 26 rfl
  have h87 : σ 1 87 = τ 1 87 := h.da 87 rfl
  have h28 : σ 0 28 = τ 0 28 := h.sc 28 rfl
  have h29 : σ 0 29 = τ 0 29 := h.sc 29 rfl
  have r87 := xr_1 ok 87
  unfold x10_read m_flashByte
  rw [← h26, ← h87, ← h28]
  refine ite_P2 ?_ (fun c => ?_) (fun c => ?_)
  · rw [mode4 r87]
  · have h2 : R b (sst σ 0 26 0) (sst τ 0 26 0) := R_scal h rfl rfl (fun _ => by decide)
    refine ltl_P (ltr_P ?_)
    have h3 := R_done h2 (xst_f0_26 ok)
    refine ltS_P h3 (fun s t h => ?_)
    rw [h.sc 28 rfl, h.sc 29 rfl]
    exact ltl_P (ltr_P (RP_i rfl h))
  · refine ltl_P (ltr_P ?_)
    have hv : rg 0 2047 ((a >>> (1 : Int32)) &&& 2047) := rg_and_r (rg_w rl_2047 (by decide) (by decide))
    generalize ((a >>> (1 : Int32)) &&& 2047) = v at hv ⊢
    refine ltl_P (ltr_P (ltr_P ?_))
    rw [← hk]
    have g : RP b (lt (x10_word σ v) fun v126 => lt ((if (a &&& 1) = 0 then (v126 &&& 255) else (v126 >>> (8 : Int32))) : Int32) fun z131 => (z131, σ)) (lt ((if ((a) - (a) / (2) * (2)) = 0 then ((m_code τ v) &&& 255) else ((m_code τ v) >>> (8 : Int32))) : Int32) fun z142 => (z142, τ)) := by
      rw [← read_tail τ ha hv, R_word h]
      exact ltl_P (ltr_P (ltl_P (ltr_P (RP_i rfl h))))
    refine ite_P (fun _ => g) (fun _ => ?_)
    refine ltl_P (ltr_P ?_)
    exact ite_P (fun _ => RP_i rfl h) (fun _ => g)
