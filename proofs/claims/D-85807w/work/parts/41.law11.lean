/-! PLAIN LAW 11: stores, the plain ones and most units -/
set_option maxRecDepth 100000
theorem byte_and {x p q : Int32} (hx : rg 0 255 x) (h : 255 &&& p = 255 &&& q) : x &&& p = x &&& q := by
  rw [← m255 hx, Int32.and_assoc, Int32.and_assoc, h]
theorem low_or (v c d m : Int32) (h : ∀ i, i < 32 → (m.toBitVec.getLsbD i && c.toBitVec.getLsbD i) = (m.toBitVec.getLsbD i && d.toBitVec.getLsbD i)) : m &&& (v ||| c) = m &&& (v ||| d) := by
  apply i32_ext
  intro i hi
  have := h i hi
  rw [gl_and, gl_and, gl_or, gl_or]
  revert this
  cases m.toBitVec.getLsbD i <;> cases c.toBitVec.getLsbD i <;> cases d.toBitVec.getLsbD i <;> cases v.toBitVec.getLsbD i <;> simp
theorem m3 {x : Int32} (h : rg 0 3 x) : x &&& 3 = x := i_eq.mpr (by rw [and3]; have := h.1; have := h.2; omega)
theorem ltl_R {α : Type} {b : Bool} {x : α} {f : α → Sg} {t : Sg} (h : R b (f x) t) : R b (lt x f) t := h
theorem ltr_R {α : Type} {b : Bool} {x : α} {f : α → Sg} {s : Sg} (h : R b s (f x)) : R b s (lt x f) := h
theorem xstore35 (σ : Sg) (v : Int32) : x2_store σ 35 v = sst σ 1 37 ((σ 1 37) ^^^ (v &&& 255)) := rfl
theorem mstore35 (σ : Sg) (v : Int32) : m_store σ 35 v = sst σ 1 37 ((σ 1 37) ^^^ v) := rfl
theorem xstore53 (σ : Sg) (v : Int32) : x2_store σ 53 v = sst σ 1 53 ((σ 1 53) &&& (((v &&& 255) ^^^ (-1)) &&& 3)) := rfl
theorem mstore53 (σ : Sg) (v : Int32) : m_store σ 53 v = sst σ 1 53 ((σ 1 53) &&& (v ^^^ (-1))) := rfl
theorem xstore84 (σ : Sg) (v : Int32) : x2_store σ 84 v = sst σ 1 84 ((σ 1 84) &&& ((v &&& 255) ||| (-12))) := rfl
theorem mstore84 (σ : Sg) (v : Int32) : m_store σ 84 v = sst σ 1 84 ((σ 1 84) &&& (v ||| 244)) := rfl
theorem xstore85 (σ : Sg) (v : Int32) : x2_store σ 85 v = x9_store σ 85 (v &&& 255) := rfl
theorem mstore85 (σ : Sg) (v : Int32) : m_store σ 85 v = m_storeVectors σ v := rfl
theorem xstore87 (σ : Sg) (v : Int32) : x2_store σ 87 v = x10_store σ 87 (v &&& 255) := rfl
theorem mstore87 (σ : Sg) (v : Int32) : m_store σ 87 v = m_storeFlash σ v := rfl
theorem xstore192 (σ : Sg) (v : Int32) : x2_store σ 192 v = if ((v &&& 255) &&& 64) = 0 then sst σ 0 33 (if ((v &&& 255) &&& 2) = 0 then 0 else 1) else sst (sst σ 0 33 (if ((v &&& 255) &&& 2) = 0 then 0 else 1)) 0 32 0 := rfl
theorem mstore192 (σ : Sg) (v : Int32) : m_store σ 192 v = sst σ 1 192 (((σ 1 192) &&& (if (v &&& 64) = 0 then 253 else 189)) ||| (v &&& 2)) := rfl
theorem xstore193 (σ : Sg) (v : Int32) : x2_store σ 193 v = if ((v &&& 255) &&& 8) = 0 then sst (sst σ 1 193 (v &&& 255)) 0 11 (-1) else sst σ 1 193 (v &&& 255) := rfl
theorem mstore193 (σ : Sg) (v : Int32) : m_store σ 193 v = if (v &&& 8) = 0 then sst (sst (sst σ 1 193 v) 0 11 (-1)) 1 192 (((sst (sst σ 1 193 v) 0 11 (-1)) 1 192) ||| 32) else sst σ 1 193 v := rfl
theorem xstore198 (σ : Sg) (v : Int32) : x2_store σ 198 v = if (¬ (((σ 1 193) &&& 8) = 0)) ∧ ((σ 0 11) < 0) then sst σ 0 11 (v &&& 255) else σ := rfl
theorem mstore198 (σ : Sg) (v : Int32) : m_store σ 198 v = if (((σ 1 193) &&& 8) = 0) ∨ (((σ 1 192) &&& 32) = 0) then σ else sst (sst σ 0 11 v) 1 192 (((sst σ 0 11 v) 1 192) &&& 223) := rfl
theorem R_store_35 {b : Bool} {σ τ : Sg} (h : R b σ τ) {v : Int32} (hv : rg 0 255 v) : R b (x2_store σ 35 v) (m_store τ 35 v) := by
  rw [xstore35, mstore35, m255 hv, h.da 37 rfl]
  exact R_da h rfl (fun q => absurd q (by decide)) (fun q => absurd q (by decide)) (fun q => absurd q (by decide)) (fun q => absurd q (by decide)) (fun q => absurd q (by decide)) (fun _ _ q => by cases q)
theorem R_store_53 {b : Bool} {σ τ : Sg} (h : R b σ τ) {v : Int32} (hv : rg 0 255 v) : R b (x2_store σ 53 v) (m_store τ 53 v) := by
  have e : (σ 1 53) &&& ((v ^^^ (-1)) &&& 3) = (σ 1 53) &&& (v ^^^ (-1)) := by
    rw [Int32.and_comm (v ^^^ (-1)), ← Int32.and_assoc, m3 h.d53]
  rw [xstore53, mstore53, m255 hv, e, ← h.da 53 rfl]
  refine R_da h rfl (fun _ => ?_) (fun q => absurd q (by decide)) (fun q => absurd q (by decide)) (fun q => absurd q (by decide)) (fun q => absurd q (by decide)) (fun _ _ q => by cases q)
  rw [← m3 h.d53, Int32.and_comm (σ 1 53) 3, Int32.and_assoc]
  exact rg_and_l (rg_w rl_3 (by decide) (by decide))
theorem and_bit {x y : Int32} {f : Int32} (m : Nat) (hm : m < 32) (hf : f.toBitVec = BitVec.twoPow 32 m) (h : ¬ (x &&& y) &&& f = 0) : ¬ x &&& f = 0 := by
  intro q
  rw [bit_mask x m hm hf] at q
  apply h
  rw [bit_mask _ m hm hf, gl_and, q]; rfl
theorem R_store_84 {b : Bool} {σ τ : Sg} (h : R b σ τ) (ok : XOK σ) {v : Int32} (hv : rg 0 255 v) : R b (x2_store σ 84 v) (m_store τ 84 v) := by
  have e : (σ 1 84) &&& (v ||| (-12)) = (σ 1 84) &&& (v ||| 244) := byte_and (xr_1 ok 84) (low_or v _ _ _ (by decide +kernel))
  rw [xstore84, mstore84, m255 hv, e, ← h.da 84 rfl]
  refine R_da h rfl (fun q => absurd q (by decide)) (fun q => absurd q (by decide)) (fun q => absurd q (by decide)) (fun _ q => h.dg ?_) (fun q => absurd q (by decide)) (fun _ _ q => by cases q)
  exact and_bit 3 (by decide) (by decide +kernel) q
theorem x9_85 (σ : Sg) (v : Int32) : x9_store σ 85 v = if (v &&& 1) = 0 then (if ((σ 1 85) &&& 1) = 0 then σ else sst (sst σ 1 85 (v &&& 2)) 0 25 0) else sst (sst σ 1 85 ((σ 1 85) ||| 1)) 0 25 4 := rfl
theorem mv_85 (σ : Sg) (v : Int32) : m_storeVectors σ v = if (v &&& 1) = 0 then (if ((σ 1 85) &&& 1) = 0 then σ else sst (sst σ 1 85 (v &&& 2)) 0 25 0) else sst (sst σ 1 85 ((σ 1 85) ||| 1)) 0 25 4 := rfl
theorem R_store_85 {b : Bool} {σ τ : Sg} (h : R b σ τ) {v : Int32} (hv : rg 0 255 v) : R b (x2_store σ 85 v) (m_store τ 85 v) := by
  have h85 : σ 1 85 = τ 1 85 := h.da 85 rfl
  rw [xstore85, mstore85, m255 hv, x9_85, mv_85, ← h85]
  refine ite_R (fun _ => ite_R (fun _ => h) (fun _ => ?_)) (fun _ => ?_)
  · exact R_scal (R_da h rfl (fun q => absurd q (by decide)) (fun _ => rg_and_r (rg_w rl_2 (by decide) (by decide))) (fun q => absurd q (by decide)) (fun q => absurd q (by decide)) (fun q => absurd q (by decide)) (fun _ _ q => by cases q)) rfl rfl (fun _ => by decide)
  · exact R_scal (R_da h rfl (fun q => absurd q (by decide)) (fun _ => rg_or 2 h.d85 (rg_w rl_1 (by decide) (by decide) : rg 0 1 1) (by decide) (by decide) (by decide)) (fun q => absurd q (by decide)) (fun q => absurd q (by decide)) (fun q => absurd q (by decide)) (fun _ _ q => by cases q)) rfl rfl (fun _ => by decide)
theorem w96 {w : Int32} (h : w &&& 32 = 0) : w &&& 96 = w &&& 64 := by
  apply i32_ext
  intro i hi
  have hb : (w &&& 32).toBitVec.getLsbD i = false := by rw [h]; exact gl_zero i
  have hc : ∀ i, i < 32 → (96 : Int32).toBitVec.getLsbD i = ((64 : Int32).toBitVec.getLsbD i || (32 : Int32).toBitVec.getLsbD i) := by decide +kernel
  rw [gl_and] at hb
  rw [gl_and, gl_and, hc i hi]
  revert hb
  cases w.toBitVec.getLsbD i <;> cases (64 : Int32).toBitVec.getLsbD i <;> cases (32 : Int32).toBitVec.getLsbD i <;> simp
theorem or32 {w v p q : Int32} (h : w &&& 32 = 0) (hq : q &&& 32 = 0) : ((w &&& p) ||| (v &&& q)) &&& 32 = 0 := by
  rw [bit_mask _ 5 (by decide) (by decide +kernel)] at h hq ⊢
  rw [gl_or, gl_and, gl_and, h, hq]
  simp
theorem x10_87 (σ : Sg) (v : Int32) : x10_store σ 87 v = if 0 < (σ 0 27) then sst σ 1 87 (((σ 1 87) &&& 127) ||| (v &&& 128)) else sst (sst σ 1 87 (((σ 1 87) &&& 64) ||| (v &&& 159))) 0 26 (if (v &&& 1) = 0 then 0 else 4) := rfl
theorem mf_87 (σ : Sg) (v : Int32) : m_storeFlash σ v = if 0 < (σ 0 27) then sst σ 1 87 (((σ 1 87) &&& 127) ||| (v &&& 128)) else sst (sst σ 1 87 (((σ 1 87) &&& 96) ||| (v &&& 159))) 0 26 (if (v &&& 1) = 0 then 0 else 4) := rfl
theorem R_store_87 {b : Bool} {σ τ : Sg} (h : R b σ τ) {v : Int32} (hv : rg 0 255 v) : R b (x2_store σ 87 v) (m_store τ 87 v) := by
  have h87 : σ 1 87 = τ 1 87 := h.da 87 rfl
  have h27 : σ 0 27 = τ 0 27 := h.sc 27 rfl
  rw [xstore87, mstore87, m255 hv, x10_87, mf_87, ← h87, ← h27, w96 h.d87]
  refine ite_R (fun _ => ?_) (fun _ => ?_)
  · exact R_da h rfl (fun q => absurd q (by decide)) (fun q => absurd q (by decide)) (fun _ => or32 h.d87 (by decide)) (fun q => absurd q (by decide)) (fun q => absurd q (by decide)) (fun _ _ q => by cases q)
  · refine R_scal (R_da h rfl (fun q => absurd q (by decide)) (fun q => absurd q (by decide)) (fun _ => or32 h.d87 (by decide)) (fun q => absurd q (by decide)) (fun q => absurd q (by decide)) (fun _ _ q => by cases q)) rfl rfl (fun _ => ?_)
    split <;> decide
