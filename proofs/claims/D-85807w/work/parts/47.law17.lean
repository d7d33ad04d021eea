/-! PLAIN LAW 17: instructions with loads and stores -/
set_option maxRecDepth 100000
theorem lt_as {α β γ : Type} (a : α) (f : α → β) (g : β → γ) : lt (lt a f) g = lt a (fun x => lt (f x) g) := rfl
theorem R_popPlace {b : Bool} {σ τ : Sg} (h : R b σ τ) (ok : XOK σ) : R b (x2_popPlace σ) (lt (m_popPlace τ) fun z => sst z.2 0 0 z.1) := by
  unfold x2_popPlace m_popPlace
  rw [lt_as]
  have h1 := R_pop h ok
  have ok1 : XOK (x2_pop σ).2 := (ok_x2_pop σ ok).1
  have h2 := R_pop h1.2 ok1
  refine ltl_R (ltr_R ?_)
  rw [lt_as]
  refine ltl_R (ltr_R ?_)
  refine ltl_R (ltr_R ?_)
  rw [h1.1, h2.1]
  unfold x2_go
  exact ltl_R (R_pc h2.2 rfl)
theorem R_move {b : Bool} {σ τ : Sg} (h : R b σ τ) (ok : XOK σ) (x1 : Int32) {a : Int32} (ha : rg 0 65535 a) : R b (x2_move σ x1 a) (if (x1 &&& 512) = 0 then lt (m_load τ a) fun z => lt (sst z.2 1 (((x1 >>> (4 : Int32)) &&& 31)).toNatClampNeg z.1) fun s => s else lt (m_store τ a (τ 1 (((x1 >>> (4 : Int32)) &&& 31)).toNatClampNeg)) fun s => s) := by
  unfold x2_move
  refine ltl_R (ltl_R ?_)
  refine ite_R (fun _ => ?_) (fun _ => ?_)
  · refine ltP_R (R_load h ha) (fun v s t h => ?_)
    exact ltS_R (R_reg h rfl (rgh_a31 _)) (fun s t h => h)
  · rw [← h.da _ (okjr_a31 _)]
    exact ltS_R (R_store h ok ha (xr_1 ok _)) (fun s t h => h)
theorem R_displaced {b : Bool} {σ τ : Sg} (h : R b σ τ) (ok : XOK σ) (x1 : Int32) : RP b (x2_displaced σ x1) (m_displaced τ x1) := by
  unfold x2_displaced m_displaced
  refine ltl_P (ltr_P ?_)
  have hz : (if (x1 &&& 8) = 0 then (30 : Int32) else 28) = 30 ∨ (if (x1 &&& 8) = 0 then (30 : Int32) else 28) = 28 := by
    by_cases q : (x1 &&& 8) = 0
    · exact Or.inl (if_pos q)
    · exact Or.inr (if_neg q)
  refine ltl_P (ltr_P ?_)
  have hp : x2_pair σ (if (x1 &&& 8) = 0 then (30 : Int32) else 28) = x2_pair τ (if (x1 &&& 8) = 0 then (30 : Int32) else 28) := by
    rcases hz with q | q <;> rw [q] <;> exact R_pair h _ rfl rfl
  refine ltl_P (ltr_P (ltr_P ?_))
  rw [mptr, ← hp]
  exact ltS_P (R_move h ok x1 (rg_and_r (rg_w rl_65535 (by decide) (by decide)))) (fun s t h => RP_i rfl h)
theorem rg_port (x : Int32) : rg 0 255 (32 + ((x &&& 15) ||| ((x >>> (5 : Int32)) &&& 48))) := rg_w (rg_add rl_32 (rg_or 6 (rg_and_r (rg_w rl_15 (by decide) (by decide) : rg 0 15 15)) (rg_and_r (rg_w rl_48 (by decide) (by decide) : rg 0 48 48)) (by decide) (by decide) (by decide)) (by decide) (by decide)) (by decide) (by decide)
theorem R_ports {b : Bool} {σ τ : Sg} (h : R b σ τ) (ok : XOK σ) (x1 : Int32) : RP b (x2_ports σ x1) (m_ports τ x1) := by
  unfold x2_ports m_ports
  have ha : rg 0 65535 (32 + ((x1 &&& 15) ||| ((x1 >>> (5 : Int32)) &&& 48))) := rg_w (rg_port x1) (by decide) (by decide)
  refine ltl_P (ltr_P (ltl_P (ltr_P ?_)))
  refine ltS_P (ite_R (fun _ => ?_) (fun _ => ?_)) (fun s t h => RP_i rfl h)
  · refine ltP_R (R_load h ha) (fun v s t h => ?_)
    exact ltS_R (R_reg h rfl (rgh_a31 _)) (fun s t h => h)
  · rw [← h.da _ (okjr_a31 _)]
    exact ltS_R (R_store h ok ha (xr_1 ok _)) (fun s t h => h)
