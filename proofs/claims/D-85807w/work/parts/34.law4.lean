/-! PLAIN LAW 4: the board's functions of registers and flags keep R -/
set_option maxRecDepth 100000
theorem R_is {b : Bool} {σ τ : Sg} (h : R b σ τ) (f : Int32) : x2_is σ f = x2_is τ f := by unfold x2_is; rw [h.da 95 rfl]
theorem R_isLong {b : Bool} {σ τ : Sg} (_ : R b σ τ) (f : Int32) : x2_isLong σ f = x2_isLong τ f := rfl
theorem R_word {b : Bool} {σ τ : Sg} (h : R b σ τ) (f : Int32) : x10_word σ f = x10_word τ f := by unfold x10_word; rw [h.da 87 rfl, h.fl]
theorem R_stack {b : Bool} {σ τ : Sg} (h : R b σ τ) : x2_stack σ = x2_stack τ := by unfold x2_stack; rw [h.da 93 rfl, h.da 94 rfl]
theorem R_pair {b : Bool} {σ τ : Sg} (h : R b σ τ) (x : Int32) (h1 : okj x.toNatClampNeg = true) (h2 : okj (x + 1).toNatClampNeg = true) : x2_pair σ x = x2_pair τ x := by unfold x2_pair; rw [h.da _ h1, h.da _ h2]
theorem rgt_0 : regish (0 : Int32).toNatClampNeg = true := by decide +kernel
theorem rgt_0b : regish ((0 : Int32) + 1).toNatClampNeg = true := by decide +kernel
theorem rgt_26 : regish (26 : Int32).toNatClampNeg = true := by decide +kernel
theorem rgt_26b : regish ((26 : Int32) + 1).toNatClampNeg = true := by decide +kernel
theorem rgt_28 : regish (28 : Int32).toNatClampNeg = true := by decide +kernel
theorem rgt_28b : regish ((28 : Int32) + 1).toNatClampNeg = true := by decide +kernel
theorem rgt_30 : regish (30 : Int32).toNatClampNeg = true := by decide +kernel
theorem rgt_30b : regish ((30 : Int32) + 1).toNatClampNeg = true := by decide +kernel
theorem R_pc {b : Bool} {σ τ : Sg} (h : R b σ τ) {v w : Int32} (e : v = w) : R b (sst σ 0 0 v) (sst τ 0 0 w) := R_scal h e rfl (by intro q; cases q)
theorem R_x2_toPair {b : Bool} {σ τ : Sg} (h : R b σ τ) (x1 x2 : Int32) (h1 : regish x1.toNatClampNeg = true) (h2 : regish (x1 + 1).toNatClampNeg = true) : R b (x2_toPair σ x1 x2) (x2_toPair τ x1 x2) := by
  unfold x2_toPair
  exact R_reg (R_reg h rfl h1) rfl h2
theorem R_x2_toPair' {b : Bool} {σ τ : Sg} (h : R b σ τ) {x1 x2 y1 y2 : Int32} (e1 : x1 = y1) (e2 : x2 = y2) (h1 : regish x1.toNatClampNeg = true) (h2 : regish (x1 + 1).toNatClampNeg = true) : R b (x2_toPair σ x1 x2) (x2_toPair τ y1 y2) := by
  subst e1; subst e2; exact R_x2_toPair h _ _ h1 h2
theorem R_x2_toStack {b : Bool} {σ τ : Sg} (h : R b σ τ) (x1 : Int32)  : R b (x2_toStack σ x1) (x2_toStack τ x1) := by
  have hd := h.da; have hp := h.sc 0 rfl; have hf := h.fl; have hi := R_is h; have hl := R_isLong h; have hw := R_word h; have hst := R_stack h; have hpr := R_pair h
  unfold x2_toStack
  try simp only [lt_i]
  repeat' (first
    | assumption
    | (intro v s t h; have hd := h.da; have hp := h.sc 0 rfl; have hf := h.fl; have hi := R_is h; have hl := R_isLong h; have hw := R_word h; have hst := R_stack h; have hpr := R_pair h)
    | (intro s t h; have hd := h.da; have hp := h.sc 0 rfl; have hf := h.fl; have hi := R_is h; have hl := R_isLong h; have hw := R_word h; have hst := R_stack h; have hpr := R_pair h)
    | rw [hp]
    | rw [hi]
    | rw [hl]
    | rw [hw]
    | rw [hst]
    | rw [hpr 30 (regish_okj rgt_30) (regish_okj rgt_30b)]
    | rw [hpr _ (okjr_m2 _) (okjr_m21 _)]
    | rw [hpr _ (okjr_a24 _) (okjr_a241 _)]
    | rw [hd _ okj_95]
    | rw [hd _ okj_85]
    | rw [hd _ okj_93]
    | rw [hd _ okj_94]
    | rw [hd _ okj_0]
    | rw [hd _ okj_1]
    | rw [hd _ okj_30]
    | rw [hd _ (okjr_a31 _)]
    | rw [hd _ (okjr_a16 _)]
    | rw [hd _ (okjr_a167 _)]
    | rw [hd _ (okjr_m2 _)]
    | rw [hd _ (okjr_m21 _)]
    | rw [hd _ (okjr_or _ _)]
    | rw [hd _ (okjr_a24 _)]
    | rw [hd _ (okjr_a241 _)]
    | rw [hd _ (by assumption)]
    | (with_reducible refine R_x2_toPair' (by assumption) (by with_reducible rfl) (by with_reducible rfl) (by first | assumption | exact rgt_0 | exact rgt_0b | exact rgt_26 | exact rgt_26b | exact rgt_28 | exact rgt_28b | exact rgt_30 | exact rgt_30b | exact rgh_0 | exact rgh_1 | exact rgh_26 | exact rgh_27 | exact rgh_28 | exact rgh_29 | exact rgh_30 | exact rgh_31 | exact rgh_93 | exact rgh_94 | exact rgh_95 | exact rgh_a31 _ | exact rgh_a16 _ | exact rgh_a167 _ | exact rgh_m2 _ | exact rgh_m21 _ | exact rgh_or _ _ | exact rgh_a24 _ | exact rgh_a241 _) (by first | assumption | exact rgt_0 | exact rgt_0b | exact rgt_26 | exact rgt_26b | exact rgt_28 | exact rgt_28b | exact rgt_30 | exact rgt_30b | exact rgh_0 | exact rgh_1 | exact rgh_26 | exact rgh_27 | exact rgh_28 | exact rgh_29 | exact rgh_30 | exact rgh_31 | exact rgh_93 | exact rgh_94 | exact rgh_95 | exact rgh_a31 _ | exact rgh_a16 _ | exact rgh_a167 _ | exact rgh_m2 _ | exact rgh_m21 _ | exact rgh_or _ _ | exact rgh_a24 _ | exact rgh_a241 _))
    | (with_reducible refine R_reg (by assumption) (by with_reducible rfl) (by first | assumption | exact rgt_0 | exact rgt_0b | exact rgt_26 | exact rgt_26b | exact rgt_28 | exact rgt_28b | exact rgt_30 | exact rgt_30b | exact rgh_0 | exact rgh_1 | exact rgh_26 | exact rgh_27 | exact rgh_28 | exact rgh_29 | exact rgh_30 | exact rgh_31 | exact rgh_93 | exact rgh_94 | exact rgh_95 | exact rgh_a31 _ | exact rgh_a16 _ | exact rgh_a167 _ | exact rgh_m2 _ | exact rgh_m21 _ | exact rgh_or _ _ | exact rgh_a24 _ | exact rgh_a241 _))
    | (with_reducible refine R_pc (by assumption) (by with_reducible rfl))
    | with_reducible refine ltS_R ?_ ?_
    | with_reducible refine ltS_P ?_ ?_
    | with_reducible refine ltP_R ?_ ?_
    | with_reducible refine ltP_P ?_ ?_
    | with_reducible refine ite_R (fun _ => ?_) (fun _ => ?_)
    | with_reducible refine ite_P (fun _ => ?_) (fun _ => ?_)
    | with_reducible refine RP_i (by with_reducible rfl) ?_)
theorem R_x2_toStack' {b : Bool} {σ τ : Sg} (h : R b σ τ) {x1 y1 : Int32} (e1 : x1 = y1)  : R b (x2_toStack σ x1) (x2_toStack τ y1) := by
  subst e1
  exact R_x2_toStack h _
theorem R_x2_go {b : Bool} {σ τ : Sg} (h : R b σ τ) (x1 : Int32)  : R b (x2_go σ x1) (x2_go τ x1) := by
  have hd := h.da; have hp := h.sc 0 rfl; have hf := h.fl; have hi := R_is h; have hl := R_isLong h; have hw := R_word h; have hst := R_stack h; have hpr := R_pair h
  unfold x2_go
  try simp only [lt_i]
  repeat' (first
    | assumption
    | (intro v s t h; have hd := h.da; have hp := h.sc 0 rfl; have hf := h.fl; have hi := R_is h; have hl := R_isLong h; have hw := R_word h; have hst := R_stack h; have hpr := R_pair h)
    | (intro s t h; have hd := h.da; have hp := h.sc 0 rfl; have hf := h.fl; have hi := R_is h; have hl := R_isLong h; have hw := R_word h; have hst := R_stack h; have hpr := R_pair h)
    | rw [hp]
    | rw [hi]
    | rw [hl]
    | rw [hw]
    | rw [hst]
    | rw [hpr 30 (regish_okj rgt_30) (regish_okj rgt_30b)]
    | rw [hpr _ (okjr_m2 _) (okjr_m21 _)]
    | rw [hpr _ (okjr_a24 _) (okjr_a241 _)]
    | rw [hd _ okj_95]
    | rw [hd _ okj_85]
    | rw [hd _ okj_93]
    | rw [hd _ okj_94]
    | rw [hd _ okj_0]
    | rw [hd _ okj_1]
    | rw [hd _ okj_30]
    | rw [hd _ (okjr_a31 _)]
    | rw [hd _ (okjr_a16 _)]
    | rw [hd _ (okjr_a167 _)]
    | rw [hd _ (okjr_m2 _)]
    | rw [hd _ (okjr_m21 _)]
    | rw [hd _ (okjr_or _ _)]
    | rw [hd _ (okjr_a24 _)]
    | rw [hd _ (okjr_a241 _)]
    | rw [hd _ (by assumption)]
    | (with_reducible refine R_x2_toStack' (by assumption) (by with_reducible rfl))
    | (with_reducible refine R_x2_toPair' (by assumption) (by with_reducible rfl) (by with_reducible rfl) (by first | assumption | exact rgt_0 | exact rgt_0b | exact rgt_26 | exact rgt_26b | exact rgt_28 | exact rgt_28b | exact rgt_30 | exact rgt_30b | exact rgh_0 | exact rgh_1 | exact rgh_26 | exact rgh_27 | exact rgh_28 | exact rgh_29 | exact rgh_30 | exact rgh_31 | exact rgh_93 | exact rgh_94 | exact rgh_95 | exact rgh_a31 _ | exact rgh_a16 _ | exact rgh_a167 _ | exact rgh_m2 _ | exact rgh_m21 _ | exact rgh_or _ _ | exact rgh_a24 _ | exact rgh_a241 _) (by first | assumption | exact rgt_0 | exact rgt_0b | exact rgt_26 | exact rgt_26b | exact rgt_28 | exact rgt_28b | exact rgt_30 | exact rgt_30b | exact rgh_0 | exact rgh_1 | exact rgh_26 | exact rgh_27 | exact rgh_28 | exact rgh_29 | exact rgh_30 | exact rgh_31 | exact rgh_93 | exact rgh_94 | exact rgh_95 | exact rgh_a31 _ | exact rgh_a16 _ | exact rgh_a167 _ | exact rgh_m2 _ | exact rgh_m21 _ | exact rgh_or _ _ | exact rgh_a24 _ | exact rgh_a241 _))
    | (with_reducible refine R_reg (by assumption) (by with_reducible rfl) (by first | assumption | exact rgt_0 | exact rgt_0b | exact rgt_26 | exact rgt_26b | exact rgt_28 | exact rgt_28b | exact rgt_30 | exact rgt_30b | exact rgh_0 | exact rgh_1 | exact rgh_26 | exact rgh_27 | exact rgh_28 | exact rgh_29 | exact rgh_30 | exact rgh_31 | exact rgh_93 | exact rgh_94 | exact rgh_95 | exact rgh_a31 _ | exact rgh_a16 _ | exact rgh_a167 _ | exact rgh_m2 _ | exact rgh_m21 _ | exact rgh_or _ _ | exact rgh_a24 _ | exact rgh_a241 _))
    | (with_reducible refine R_pc (by assumption) (by with_reducible rfl))
    | with_reducible refine ltS_R ?_ ?_
    | with_reducible refine ltS_P ?_ ?_
    | with_reducible refine ltP_R ?_ ?_
    | with_reducible refine ltP_P ?_ ?_
    | with_reducible refine ite_R (fun _ => ?_) (fun _ => ?_)
    | with_reducible refine ite_P (fun _ => ?_) (fun _ => ?_)
    | with_reducible refine RP_i (by with_reducible rfl) ?_)
theorem R_x2_go' {b : Bool} {σ τ : Sg} (h : R b σ τ) {x1 y1 : Int32} (e1 : x1 = y1)  : R b (x2_go σ x1) (x2_go τ y1) := by
  subst e1
  exact R_x2_go h _
theorem R_x2_set {b : Bool} {σ τ : Sg} (h : R b σ τ) (x1 x2 : Int32)  : R b (x2_set σ x1 x2) (x2_set τ x1 x2) := by
  have hd := h.da; have hp := h.sc 0 rfl; have hf := h.fl; have hi := R_is h; have hl := R_isLong h; have hw := R_word h; have hst := R_stack h; have hpr := R_pair h
  unfold x2_set
  try simp only [lt_i]
  repeat' (first
    | assumption
    | (intro v s t h; have hd := h.da; have hp := h.sc 0 rfl; have hf := h.fl; have hi := R_is h; have hl := R_isLong h; have hw := R_word h; have hst := R_stack h; have hpr := R_pair h)
    | (intro s t h; have hd := h.da; have hp := h.sc 0 rfl; have hf := h.fl; have hi := R_is h; have hl := R_isLong h; have hw := R_word h; have hst := R_stack h; have hpr := R_pair h)
    | rw [hp]
    | rw [hi]
    | rw [hl]
    | rw [hw]
    | rw [hst]
    | rw [hpr 30 (regish_okj rgt_30) (regish_okj rgt_30b)]
    | rw [hpr _ (okjr_m2 _) (okjr_m21 _)]
    | rw [hpr _ (okjr_a24 _) (okjr_a241 _)]
    | rw [hd _ okj_95]
    | rw [hd _ okj_85]
    | rw [hd _ okj_93]
    | rw [hd _ okj_94]
    | rw [hd _ okj_0]
    | rw [hd _ okj_1]
    | rw [hd _ okj_30]
    | rw [hd _ (okjr_a31 _)]
    | rw [hd _ (okjr_a16 _)]
    | rw [hd _ (okjr_a167 _)]
    | rw [hd _ (okjr_m2 _)]
    | rw [hd _ (okjr_m21 _)]
    | rw [hd _ (okjr_or _ _)]
    | rw [hd _ (okjr_a24 _)]
    | rw [hd _ (okjr_a241 _)]
    | rw [hd _ (by assumption)]
    | (with_reducible refine R_x2_toStack' (by assumption) (by with_reducible rfl))
    | (with_reducible refine R_x2_go' (by assumption) (by with_reducible rfl))
    | (with_reducible refine R_x2_toPair' (by assumption) (by with_reducible rfl) (by with_reducible rfl) (by first | assumption | exact rgt_0 | exact rgt_0b | exact rgt_26 | exact rgt_26b | exact rgt_28 | exact rgt_28b | exact rgt_30 | exact rgt_30b | exact rgh_0 | exact rgh_1 | exact rgh_26 | exact rgh_27 | exact rgh_28 | exact rgh_29 | exact rgh_30 | exact rgh_31 | exact rgh_93 | exact rgh_94 | exact rgh_95 | exact rgh_a31 _ | exact rgh_a16 _ | exact rgh_a167 _ | exact rgh_m2 _ | exact rgh_m21 _ | exact rgh_or _ _ | exact rgh_a24 _ | exact rgh_a241 _) (by first | assumption | exact rgt_0 | exact rgt_0b | exact rgt_26 | exact rgt_26b | exact rgt_28 | exact rgt_28b | exact rgt_30 | exact rgt_30b | exact rgh_0 | exact rgh_1 | exact rgh_26 | exact rgh_27 | exact rgh_28 | exact rgh_29 | exact rgh_30 | exact rgh_31 | exact rgh_93 | exact rgh_94 | exact rgh_95 | exact rgh_a31 _ | exact rgh_a16 _ | exact rgh_a167 _ | exact rgh_m2 _ | exact rgh_m21 _ | exact rgh_or _ _ | exact rgh_a24 _ | exact rgh_a241 _))
    | (with_reducible refine R_reg (by assumption) (by with_reducible rfl) (by first | assumption | exact rgt_0 | exact rgt_0b | exact rgt_26 | exact rgt_26b | exact rgt_28 | exact rgt_28b | exact rgt_30 | exact rgt_30b | exact rgh_0 | exact rgh_1 | exact rgh_26 | exact rgh_27 | exact rgh_28 | exact rgh_29 | exact rgh_30 | exact rgh_31 | exact rgh_93 | exact rgh_94 | exact rgh_95 | exact rgh_a31 _ | exact rgh_a16 _ | exact rgh_a167 _ | exact rgh_m2 _ | exact rgh_m21 _ | exact rgh_or _ _ | exact rgh_a24 _ | exact rgh_a241 _))
    | (with_reducible refine R_pc (by assumption) (by with_reducible rfl))
    | with_reducible refine ltS_R ?_ ?_
    | with_reducible refine ltS_P ?_ ?_
    | with_reducible refine ltP_R ?_ ?_
    | with_reducible refine ltP_P ?_ ?_
    | with_reducible refine ite_R (fun _ => ?_) (fun _ => ?_)
    | with_reducible refine ite_P (fun _ => ?_) (fun _ => ?_)
    | with_reducible refine RP_i (by with_reducible rfl) ?_)
theorem R_x2_set' {b : Bool} {σ τ : Sg} (h : R b σ τ) {x1 x2 y1 y2 : Int32} (e1 : x1 = y1) (e2 : x2 = y2)  : R b (x2_set σ x1 x2) (x2_set τ y1 y2) := by
  subst e1; subst e2
  exact R_x2_set h _ _
theorem R_x2_by {b : Bool} {σ τ : Sg} (h : R b σ τ) (x1 x2 : Int32)  : R b (x2_by σ x1 x2) (x2_by τ x1 x2) := by
  have hd := h.da; have hp := h.sc 0 rfl; have hf := h.fl; have hi := R_is h; have hl := R_isLong h; have hw := R_word h; have hst := R_stack h; have hpr := R_pair h
  unfold x2_by
  try simp only [lt_i]
  repeat' (first
    | assumption
    | (intro v s t h; have hd := h.da; have hp := h.sc 0 rfl; have hf := h.fl; have hi := R_is h; have hl := R_isLong h; have hw := R_word h; have hst := R_stack h; have hpr := R_pair h)
    | (intro s t h; have hd := h.da; have hp := h.sc 0 rfl; have hf := h.fl; have hi := R_is h; have hl := R_isLong h; have hw := R_word h; have hst := R_stack h; have hpr := R_pair h)
    | rw [hp]
    | rw [hi]
    | rw [hl]
    | rw [hw]
    | rw [hst]
    | rw [hpr 30 (regish_okj rgt_30) (regish_okj rgt_30b)]
    | rw [hpr _ (okjr_m2 _) (okjr_m21 _)]
    | rw [hpr _ (okjr_a24 _) (okjr_a241 _)]
    | rw [hd _ okj_95]
    | rw [hd _ okj_85]
    | rw [hd _ okj_93]
    | rw [hd _ okj_94]
    | rw [hd _ okj_0]
    | rw [hd _ okj_1]
    | rw [hd _ okj_30]
    | rw [hd _ (okjr_a31 _)]
    | rw [hd _ (okjr_a16 _)]
    | rw [hd _ (okjr_a167 _)]
    | rw [hd _ (okjr_m2 _)]
    | rw [hd _ (okjr_m21 _)]
    | rw [hd _ (okjr_or _ _)]
    | rw [hd _ (okjr_a24 _)]
    | rw [hd _ (okjr_a241 _)]
    | rw [hd _ (by assumption)]
    | (with_reducible refine R_x2_toStack' (by assumption) (by with_reducible rfl))
    | (with_reducible refine R_x2_go' (by assumption) (by with_reducible rfl))
    | (with_reducible refine R_x2_set' (by assumption) (by with_reducible rfl) (by with_reducible rfl))
    | (with_reducible refine R_x2_toPair' (by assumption) (by with_reducible rfl) (by with_reducible rfl) (by first | assumption | exact rgt_0 | exact rgt_0b | exact rgt_26 | exact rgt_26b | exact rgt_28 | exact rgt_28b | exact rgt_30 | exact rgt_30b | exact rgh_0 | exact rgh_1 | exact rgh_26 | exact rgh_27 | exact rgh_28 | exact rgh_29 | exact rgh_30 | exact rgh_31 | exact rgh_93 | exact rgh_94 | exact rgh_95 | exact rgh_a31 _ | exact rgh_a16 _ | exact rgh_a167 _ | exact rgh_m2 _ | exact rgh_m21 _ | exact rgh_or _ _ | exact rgh_a24 _ | exact rgh_a241 _) (by first | assumption | exact rgt_0 | exact rgt_0b | exact rgt_26 | exact rgt_26b | exact rgt_28 | exact rgt_28b | exact rgt_30 | exact rgt_30b | exact rgh_0 | exact rgh_1 | exact rgh_26 | exact rgh_27 | exact rgh_28 | exact rgh_29 | exact rgh_30 | exact rgh_31 | exact rgh_93 | exact rgh_94 | exact rgh_95 | exact rgh_a31 _ | exact rgh_a16 _ | exact rgh_a167 _ | exact rgh_m2 _ | exact rgh_m21 _ | exact rgh_or _ _ | exact rgh_a24 _ | exact rgh_a241 _))
    | (with_reducible refine R_reg (by assumption) (by with_reducible rfl) (by first | assumption | exact rgt_0 | exact rgt_0b | exact rgt_26 | exact rgt_26b | exact rgt_28 | exact rgt_28b | exact rgt_30 | exact rgt_30b | exact rgh_0 | exact rgh_1 | exact rgh_26 | exact rgh_27 | exact rgh_28 | exact rgh_29 | exact rgh_30 | exact rgh_31 | exact rgh_93 | exact rgh_94 | exact rgh_95 | exact rgh_a31 _ | exact rgh_a16 _ | exact rgh_a167 _ | exact rgh_m2 _ | exact rgh_m21 _ | exact rgh_or _ _ | exact rgh_a24 _ | exact rgh_a241 _))
    | (with_reducible refine R_pc (by assumption) (by with_reducible rfl))
    | with_reducible refine ltS_R ?_ ?_
    | with_reducible refine ltS_P ?_ ?_
    | with_reducible refine ltP_R ?_ ?_
    | with_reducible refine ltP_P ?_ ?_
    | with_reducible refine ite_R (fun _ => ?_) (fun _ => ?_)
    | with_reducible refine ite_P (fun _ => ?_) (fun _ => ?_)
    | with_reducible refine RP_i (by with_reducible rfl) ?_)
theorem R_x2_by' {b : Bool} {σ τ : Sg} (h : R b σ τ) {x1 x2 y1 y2 : Int32} (e1 : x1 = y1) (e2 : x2 = y2)  : R b (x2_by σ x1 x2) (x2_by τ y1 y2) := by
  subst e1; subst e2
  exact R_x2_by h _ _
theorem R_x2_added {b : Bool} {σ τ : Sg} (h : R b σ τ) (x1 x2 x3 : Int32)  : RP b (x2_added σ x1 x2 x3) (x2_added τ x1 x2 x3) := by
  have hd := h.da; have hp := h.sc 0 rfl; have hf := h.fl; have hi := R_is h; have hl := R_isLong h; have hw := R_word h; have hst := R_stack h; have hpr := R_pair h
  unfold x2_added
  try simp only [lt_i]
  repeat' (first
    | assumption
    | (intro v s t h; have hd := h.da; have hp := h.sc 0 rfl; have hf := h.fl; have hi := R_is h; have hl := R_isLong h; have hw := R_word h; have hst := R_stack h; have hpr := R_pair h)
    | (intro s t h; have hd := h.da; have hp := h.sc 0 rfl; have hf := h.fl; have hi := R_is h; have hl := R_isLong h; have hw := R_word h; have hst := R_stack h; have hpr := R_pair h)
    | rw [hp]
    | rw [hi]
    | rw [hl]
    | rw [hw]
    | rw [hst]
    | rw [hpr 30 (regish_okj rgt_30) (regish_okj rgt_30b)]
    | rw [hpr _ (okjr_m2 _) (okjr_m21 _)]
    | rw [hpr _ (okjr_a24 _) (okjr_a241 _)]
    | rw [hd _ okj_95]
    | rw [hd _ okj_85]
    | rw [hd _ okj_93]
    | rw [hd _ okj_94]
    | rw [hd _ okj_0]
    | rw [hd _ okj_1]
    | rw [hd _ okj_30]
    | rw [hd _ (okjr_a31 _)]
    | rw [hd _ (okjr_a16 _)]
    | rw [hd _ (okjr_a167 _)]
    | rw [hd _ (okjr_m2 _)]
    | rw [hd _ (okjr_m21 _)]
    | rw [hd _ (okjr_or _ _)]
    | rw [hd _ (okjr_a24 _)]
    | rw [hd _ (okjr_a241 _)]
    | rw [hd _ (by assumption)]
    | (with_reducible refine R_x2_toStack' (by assumption) (by with_reducible rfl))
    | (with_reducible refine R_x2_go' (by assumption) (by with_reducible rfl))
    | (with_reducible refine R_x2_set' (by assumption) (by with_reducible rfl) (by with_reducible rfl))
    | (with_reducible refine R_x2_by' (by assumption) (by with_reducible rfl) (by with_reducible rfl))
    | (with_reducible refine R_x2_toPair' (by assumption) (by with_reducible rfl) (by with_reducible rfl) (by first | assumption | exact rgt_0 | exact rgt_0b | exact rgt_26 | exact rgt_26b | exact rgt_28 | exact rgt_28b | exact rgt_30 | exact rgt_30b | exact rgh_0 | exact rgh_1 | exact rgh_26 | exact rgh_27 | exact rgh_28 | exact rgh_29 | exact rgh_30 | exact rgh_31 | exact rgh_93 | exact rgh_94 | exact rgh_95 | exact rgh_a31 _ | exact rgh_a16 _ | exact rgh_a167 _ | exact rgh_m2 _ | exact rgh_m21 _ | exact rgh_or _ _ | exact rgh_a24 _ | exact rgh_a241 _) (by first | assumption | exact rgt_0 | exact rgt_0b | exact rgt_26 | exact rgt_26b | exact rgt_28 | exact rgt_28b | exact rgt_30 | exact rgt_30b | exact rgh_0 | exact rgh_1 | exact rgh_26 | exact rgh_27 | exact rgh_28 | exact rgh_29 | exact rgh_30 | exact rgh_31 | exact rgh_93 | exact rgh_94 | exact rgh_95 | exact rgh_a31 _ | exact rgh_a16 _ | exact rgh_a167 _ | exact rgh_m2 _ | exact rgh_m21 _ | exact rgh_or _ _ | exact rgh_a24 _ | exact rgh_a241 _))
    | (with_reducible refine R_reg (by assumption) (by with_reducible rfl) (by first | assumption | exact rgt_0 | exact rgt_0b | exact rgt_26 | exact rgt_26b | exact rgt_28 | exact rgt_28b | exact rgt_30 | exact rgt_30b | exact rgh_0 | exact rgh_1 | exact rgh_26 | exact rgh_27 | exact rgh_28 | exact rgh_29 | exact rgh_30 | exact rgh_31 | exact rgh_93 | exact rgh_94 | exact rgh_95 | exact rgh_a31 _ | exact rgh_a16 _ | exact rgh_a167 _ | exact rgh_m2 _ | exact rgh_m21 _ | exact rgh_or _ _ | exact rgh_a24 _ | exact rgh_a241 _))
    | (with_reducible refine R_pc (by assumption) (by with_reducible rfl))
    | with_reducible refine ltS_R ?_ ?_
    | with_reducible refine ltS_P ?_ ?_
    | with_reducible refine ltP_R ?_ ?_
    | with_reducible refine ltP_P ?_ ?_
    | with_reducible refine ite_R (fun _ => ?_) (fun _ => ?_)
    | with_reducible refine ite_P (fun _ => ?_) (fun _ => ?_)
    | with_reducible refine RP_i (by with_reducible rfl) ?_)
theorem R_x2_added' {b : Bool} {σ τ : Sg} (h : R b σ τ) {x1 x2 x3 y1 y2 y3 : Int32} (e1 : x1 = y1) (e2 : x2 = y2) (e3 : x3 = y3)  : RP b (x2_added σ x1 x2 x3) (x2_added τ y1 y2 y3) := by
  subst e1; subst e2; subst e3
  exact R_x2_added h _ _ _
theorem R_x2_taken {b : Bool} {σ τ : Sg} (h : R b σ τ) (x1 x2 x3 : Int32)  : RP b (x2_taken σ x1 x2 x3) (x2_taken τ x1 x2 x3) := by
  have hd := h.da; have hp := h.sc 0 rfl; have hf := h.fl; have hi := R_is h; have hl := R_isLong h; have hw := R_word h; have hst := R_stack h; have hpr := R_pair h
  unfold x2_taken
  try simp only [lt_i]
  repeat' (first
    | assumption
    | (intro v s t h; have hd := h.da; have hp := h.sc 0 rfl; have hf := h.fl; have hi := R_is h; have hl := R_isLong h; have hw := R_word h; have hst := R_stack h; have hpr := R_pair h)
    | (intro s t h; have hd := h.da; have hp := h.sc 0 rfl; have hf := h.fl; have hi := R_is h; have hl := R_isLong h; have hw := R_word h; have hst := R_stack h; have hpr := R_pair h)
    | rw [hp]
    | rw [hi]
    | rw [hl]
    | rw [hw]
    | rw [hst]
    | rw [hpr 30 (regish_okj rgt_30) (regish_okj rgt_30b)]
    | rw [hpr _ (okjr_m2 _) (okjr_m21 _)]
    | rw [hpr _ (okjr_a24 _) (okjr_a241 _)]
    | rw [hd _ okj_95]
    | rw [hd _ okj_85]
    | rw [hd _ okj_93]
    | rw [hd _ okj_94]
    | rw [hd _ okj_0]
    | rw [hd _ okj_1]
    | rw [hd _ okj_30]
    | rw [hd _ (okjr_a31 _)]
    | rw [hd _ (okjr_a16 _)]
    | rw [hd _ (okjr_a167 _)]
    | rw [hd _ (okjr_m2 _)]
    | rw [hd _ (okjr_m21 _)]
    | rw [hd _ (okjr_or _ _)]
    | rw [hd _ (okjr_a24 _)]
    | rw [hd _ (okjr_a241 _)]
    | rw [hd _ (by assumption)]
    | (with_reducible refine R_x2_toStack' (by assumption) (by with_reducible rfl))
    | (with_reducible refine R_x2_go' (by assumption) (by with_reducible rfl))
    | (with_reducible refine R_x2_set' (by assumption) (by with_reducible rfl) (by with_reducible rfl))
    | (with_reducible refine R_x2_by' (by assumption) (by with_reducible rfl) (by with_reducible rfl))
    | (with_reducible refine R_x2_added' (by assumption) (by with_reducible rfl) (by with_reducible rfl) (by with_reducible rfl))
    | (with_reducible refine R_x2_toPair' (by assumption) (by with_reducible rfl) (by with_reducible rfl) (by first | assumption | exact rgt_0 | exact rgt_0b | exact rgt_26 | exact rgt_26b | exact rgt_28 | exact rgt_28b | exact rgt_30 | exact rgt_30b | exact rgh_0 | exact rgh_1 | exact rgh_26 | exact rgh_27 | exact rgh_28 | exact rgh_29 | exact rgh_30 | exact rgh_31 | exact rgh_93 | exact rgh_94 | exact rgh_95 | exact rgh_a31 _ | exact rgh_a16 _ | exact rgh_a167 _ | exact rgh_m2 _ | exact rgh_m21 _ | exact rgh_or _ _ | exact rgh_a24 _ | exact rgh_a241 _) (by first | assumption | exact rgt_0 | exact rgt_0b | exact rgt_26 | exact rgt_26b | exact rgt_28 | exact rgt_28b | exact rgt_30 | exact rgt_30b | exact rgh_0 | exact rgh_1 | exact rgh_26 | exact rgh_27 | exact rgh_28 | exact rgh_29 | exact rgh_30 | exact rgh_31 | exact rgh_93 | exact rgh_94 | exact rgh_95 | exact rgh_a31 _ | exact rgh_a16 _ | exact rgh_a167 _ | exact rgh_m2 _ | exact rgh_m21 _ | exact rgh_or _ _ | exact rgh_a24 _ | exact rgh_a241 _))
    | (with_reducible refine R_reg (by assumption) (by with_reducible rfl) (by first | assumption | exact rgt_0 | exact rgt_0b | exact rgt_26 | exact rgt_26b | exact rgt_28 | exact rgt_28b | exact rgt_30 | exact rgt_30b | exact rgh_0 | exact rgh_1 | exact rgh_26 | exact rgh_27 | exact rgh_28 | exact rgh_29 | exact rgh_30 | exact rgh_31 | exact rgh_93 | exact rgh_94 | exact rgh_95 | exact rgh_a31 _ | exact rgh_a16 _ | exact rgh_a167 _ | exact rgh_m2 _ | exact rgh_m21 _ | exact rgh_or _ _ | exact rgh_a24 _ | exact rgh_a241 _))
    | (with_reducible refine R_pc (by assumption) (by with_reducible rfl))
    | with_reducible refine ltS_R ?_ ?_
    | with_reducible refine ltS_P ?_ ?_
    | with_reducible refine ltP_R ?_ ?_
    | with_reducible refine ltP_P ?_ ?_
    | with_reducible refine ite_R (fun _ => ?_) (fun _ => ?_)
    | with_reducible refine ite_P (fun _ => ?_) (fun _ => ?_)
    | with_reducible refine RP_i (by with_reducible rfl) ?_)
theorem R_x2_taken' {b : Bool} {σ τ : Sg} (h : R b σ τ) {x1 x2 x3 y1 y2 y3 : Int32} (e1 : x1 = y1) (e2 : x2 = y2) (e3 : x3 = y3)  : RP b (x2_taken σ x1 x2 x3) (x2_taken τ y1 y2 y3) := by
  subst e1; subst e2; subst e3
  exact R_x2_taken h _ _ _
theorem R_x2_takenOn {b : Bool} {σ τ : Sg} (h : R b σ τ) (x1 x2 : Int32)  : RP b (x2_takenOn σ x1 x2) (x2_takenOn τ x1 x2) := by
  have hd := h.da; have hp := h.sc 0 rfl; have hf := h.fl; have hi := R_is h; have hl := R_isLong h; have hw := R_word h; have hst := R_stack h; have hpr := R_pair h
  unfold x2_takenOn
  try simp only [lt_i]
  repeat' (first
    | assumption
    | (intro v s t h; have hd := h.da; have hp := h.sc 0 rfl; have hf := h.fl; have hi := R_is h; have hl := R_isLong h; have hw := R_word h; have hst := R_stack h; have hpr := R_pair h)
    | (intro s t h; have hd := h.da; have hp := h.sc 0 rfl; have hf := h.fl; have hi := R_is h; have hl := R_isLong h; have hw := R_word h; have hst := R_stack h; have hpr := R_pair h)
    | rw [hp]
    | rw [hi]
    | rw [hl]
    | rw [hw]
    | rw [hst]
    | rw [hpr 30 (regish_okj rgt_30) (regish_okj rgt_30b)]
    | rw [hpr _ (okjr_m2 _) (okjr_m21 _)]
    | rw [hpr _ (okjr_a24 _) (okjr_a241 _)]
    | rw [hd _ okj_95]
    | rw [hd _ okj_85]
    | rw [hd _ okj_93]
    | rw [hd _ okj_94]
    | rw [hd _ okj_0]
    | rw [hd _ okj_1]
    | rw [hd _ okj_30]
    | rw [hd _ (okjr_a31 _)]
    | rw [hd _ (okjr_a16 _)]
    | rw [hd _ (okjr_a167 _)]
    | rw [hd _ (okjr_m2 _)]
    | rw [hd _ (okjr_m21 _)]
    | rw [hd _ (okjr_or _ _)]
    | rw [hd _ (okjr_a24 _)]
    | rw [hd _ (okjr_a241 _)]
    | rw [hd _ (by assumption)]
    | (with_reducible refine R_x2_toStack' (by assumption) (by with_reducible rfl))
    | (with_reducible refine R_x2_go' (by assumption) (by with_reducible rfl))
    | (with_reducible refine R_x2_set' (by assumption) (by with_reducible rfl) (by with_reducible rfl))
    | (with_reducible refine R_x2_by' (by assumption) (by with_reducible rfl) (by with_reducible rfl))
    | (with_reducible refine R_x2_added' (by assumption) (by with_reducible rfl) (by with_reducible rfl) (by with_reducible rfl))
    | (with_reducible refine R_x2_taken' (by assumption) (by with_reducible rfl) (by with_reducible rfl) (by with_reducible rfl))
    | (with_reducible refine R_x2_toPair' (by assumption) (by with_reducible rfl) (by with_reducible rfl) (by first | assumption | exact rgt_0 | exact rgt_0b | exact rgt_26 | exact rgt_26b | exact rgt_28 | exact rgt_28b | exact rgt_30 | exact rgt_30b | exact rgh_0 | exact rgh_1 | exact rgh_26 | exact rgh_27 | exact rgh_28 | exact rgh_29 | exact rgh_30 | exact rgh_31 | exact rgh_93 | exact rgh_94 | exact rgh_95 | exact rgh_a31 _ | exact rgh_a16 _ | exact rgh_a167 _ | exact rgh_m2 _ | exact rgh_m21 _ | exact rgh_or _ _ | exact rgh_a24 _ | exact rgh_a241 _) (by first | assumption | exact rgt_0 | exact rgt_0b | exact rgt_26 | exact rgt_26b | exact rgt_28 | exact rgt_28b | exact rgt_30 | exact rgt_30b | exact rgh_0 | exact rgh_1 | exact rgh_26 | exact rgh_27 | exact rgh_28 | exact rgh_29 | exact rgh_30 | exact rgh_31 | exact rgh_93 | exact rgh_94 | exact rgh_95 | exact rgh_a31 _ | exact rgh_a16 _ | exact rgh_a167 _ | exact rgh_m2 _ | exact rgh_m21 _ | exact rgh_or _ _ | exact rgh_a24 _ | exact rgh_a241 _))
    | (with_reducible refine R_reg (by assumption) (by with_reducible rfl) (by first | assumption | exact rgt_0 | exact rgt_0b | exact rgt_26 | exact rgt_26b | exact rgt_28 | exact rgt_28b | exact rgt_30 | exact rgt_30b | exact rgh_0 | exact rgh_1 | exact rgh_26 | exact rgh_27 | exact rgh_28 | exact rgh_29 | exact rgh_30 | exact rgh_31 | exact rgh_93 | exact rgh_94 | exact rgh_95 | exact rgh_a31 _ | exact rgh_a16 _ | exact rgh_a167 _ | exact rgh_m2 _ | exact rgh_m21 _ | exact rgh_or _ _ | exact rgh_a24 _ | exact rgh_a241 _))
    | (with_reducible refine R_pc (by assumption) (by with_reducible rfl))
    | with_reducible refine ltS_R ?_ ?_
    | with_reducible refine ltS_P ?_ ?_
    | with_reducible refine ltP_R ?_ ?_
    | with_reducible refine ltP_P ?_ ?_
    | with_reducible refine ite_R (fun _ => ?_) (fun _ => ?_)
    | with_reducible refine ite_P (fun _ => ?_) (fun _ => ?_)
    | with_reducible refine RP_i (by with_reducible rfl) ?_)
theorem R_x2_takenOn' {b : Bool} {σ τ : Sg} (h : R b σ τ) {x1 x2 y1 y2 : Int32} (e1 : x1 = y1) (e2 : x2 = y2)  : RP b (x2_takenOn σ x1 x2) (x2_takenOn τ y1 y2) := by
  subst e1; subst e2
  exact R_x2_takenOn h _ _
theorem R_x2_logic {b : Bool} {σ τ : Sg} (h : R b σ τ) (x1 : Int32)  : RP b (x2_logic σ x1) (x2_logic τ x1) := by
  have hd := h.da; have hp := h.sc 0 rfl; have hf := h.fl; have hi := R_is h; have hl := R_isLong h; have hw := R_word h; have hst := R_stack h; have hpr := R_pair h
  unfold x2_logic
  try simp only [lt_i]
  repeat' (first
    | assumption
    | (intro v s t h; have hd := h.da; have hp := h.sc 0 rfl; have hf := h.fl; have hi := R_is h; have hl := R_isLong h; have hw := R_word h; have hst := R_stack h; have hpr := R_pair h)
    | (intro s t h; have hd := h.da; have hp := h.sc 0 rfl; have hf := h.fl; have hi := R_is h; have hl := R_isLong h; have hw := R_word h; have hst := R_stack h; have hpr := R_pair h)
    | rw [hp]
    | rw [hi]
    | rw [hl]
    | rw [hw]
    | rw [hst]
    | rw [hpr 30 (regish_okj rgt_30) (regish_okj rgt_30b)]
    | rw [hpr _ (okjr_m2 _) (okjr_m21 _)]
    | rw [hpr _ (okjr_a24 _) (okjr_a241 _)]
    | rw [hd _ okj_95]
    | rw [hd _ okj_85]
    | rw [hd _ okj_93]
    | rw [hd _ okj_94]
    | rw [hd _ okj_0]
    | rw [hd _ okj_1]
    | rw [hd _ okj_30]
    | rw [hd _ (okjr_a31 _)]
    | rw [hd _ (okjr_a16 _)]
    | rw [hd _ (okjr_a167 _)]
    | rw [hd _ (okjr_m2 _)]
    | rw [hd _ (okjr_m21 _)]
    | rw [hd _ (okjr_or _ _)]
    | rw [hd _ (okjr_a24 _)]
    | rw [hd _ (okjr_a241 _)]
    | rw [hd _ (by assumption)]
    | (with_reducible refine R_x2_toStack' (by assumption) (by with_reducible rfl))
    | (with_reducible refine R_x2_go' (by assumption) (by with_reducible rfl))
    | (with_reducible refine R_x2_set' (by assumption) (by with_reducible rfl) (by with_reducible rfl))
    | (with_reducible refine R_x2_by' (by assumption) (by with_reducible rfl) (by with_reducible rfl))
    | (with_reducible refine R_x2_added' (by assumption) (by with_reducible rfl) (by with_reducible rfl) (by with_reducible rfl))
    | (with_reducible refine R_x2_taken' (by assumption) (by with_reducible rfl) (by with_reducible rfl) (by with_reducible rfl))
    | (with_reducible refine R_x2_takenOn' (by assumption) (by with_reducible rfl) (by with_reducible rfl))
    | (with_reducible refine R_x2_toPair' (by assumption) (by with_reducible rfl) (by with_reducible rfl) (by first | assumption | exact rgt_0 | exact rgt_0b | exact rgt_26 | exact rgt_26b | exact rgt_28 | exact rgt_28b | exact rgt_30 | exact rgt_30b | exact rgh_0 | exact rgh_1 | exact rgh_26 | exact rgh_27 | exact rgh_28 | exact rgh_29 | exact rgh_30 | exact rgh_31 | exact rgh_93 | exact rgh_94 | exact rgh_95 | exact rgh_a31 _ | exact rgh_a16 _ | exact rgh_a167 _ | exact rgh_m2 _ | exact rgh_m21 _ | exact rgh_or _ _ | exact rgh_a24 _ | exact rgh_a241 _) (by first | assumption | exact rgt_0 | exact rgt_0b | exact rgt_26 | exact rgt_26b | exact rgt_28 | exact rgt_28b | exact rgt_30 | exact rgt_30b | exact rgh_0 | exact rgh_1 | exact rgh_26 | exact rgh_27 | exact rgh_28 | exact rgh_29 | exact rgh_30 | exact rgh_31 | exact rgh_93 | exact rgh_94 | exact rgh_95 | exact rgh_a31 _ | exact rgh_a16 _ | exact rgh_a167 _ | exact rgh_m2 _ | exact rgh_m21 _ | exact rgh_or _ _ | exact rgh_a24 _ | exact rgh_a241 _))
    | (with_reducible refine R_reg (by assumption) (by with_reducible rfl) (by first | assumption | exact rgt_0 | exact rgt_0b | exact rgt_26 | exact rgt_26b | exact rgt_28 | exact rgt_28b | exact rgt_30 | exact rgt_30b | exact rgh_0 | exact rgh_1 | exact rgh_26 | exact rgh_27 | exact rgh_28 | exact rgh_29 | exact rgh_30 | exact rgh_31 | exact rgh_93 | exact rgh_94 | exact rgh_95 | exact rgh_a31 _ | exact rgh_a16 _ | exact rgh_a167 _ | exact rgh_m2 _ | exact rgh_m21 _ | exact rgh_or _ _ | exact rgh_a24 _ | exact rgh_a241 _))
    | (with_reducible refine R_pc (by assumption) (by with_reducible rfl))
    | with_reducible refine ltS_R ?_ ?_
    | with_reducible refine ltS_P ?_ ?_
    | with_reducible refine ltP_R ?_ ?_
    | with_reducible refine ltP_P ?_ ?_
    | with_reducible refine ite_R (fun _ => ?_) (fun _ => ?_)
    | with_reducible refine ite_P (fun _ => ?_) (fun _ => ?_)
    | with_reducible refine RP_i (by with_reducible rfl) ?_)
theorem R_x2_logic' {b : Bool} {σ τ : Sg} (h : R b σ τ) {x1 y1 : Int32} (e1 : x1 = y1)  : RP b (x2_logic σ x1) (x2_logic τ y1) := by
  subst e1
  exact R_x2_logic h _
theorem R_x2_product {b : Bool} {σ τ : Sg} (h : R b σ τ) (x1 x2 : Int32)  : R b (x2_product σ x1 x2) (x2_product τ x1 x2) := by
  have hd := h.da; have hp := h.sc 0 rfl; have hf := h.fl; have hi := R_is h; have hl := R_isLong h; have hw := R_word h; have hst := R_stack h; have hpr := R_pair h
  unfold x2_product
  try simp only [lt_i]
  repeat' (first
    | assumption
    | (intro v s t h; have hd := h.da; have hp := h.sc 0 rfl; have hf := h.fl; have hi := R_is h; have hl := R_isLong h; have hw := R_word h; have hst := R_stack h; have hpr := R_pair h)
    | (intro s t h; have hd := h.da; have hp := h.sc 0 rfl; have hf := h.fl; have hi := R_is h; have hl := R_isLong h; have hw := R_word h; have hst := R_stack h; have hpr := R_pair h)
    | rw [hp]
    | rw [hi]
    | rw [hl]
    | rw [hw]
    | rw [hst]
    | rw [hpr 30 (regish_okj rgt_30) (regish_okj rgt_30b)]
    | rw [hpr _ (okjr_m2 _) (okjr_m21 _)]
    | rw [hpr _ (okjr_a24 _) (okjr_a241 _)]
    | rw [hd _ okj_95]
    | rw [hd _ okj_85]
    | rw [hd _ okj_93]
    | rw [hd _ okj_94]
    | rw [hd _ okj_0]
    | rw [hd _ okj_1]
    | rw [hd _ okj_30]
    | rw [hd _ (okjr_a31 _)]
    | rw [hd _ (okjr_a16 _)]
    | rw [hd _ (okjr_a167 _)]
    | rw [hd _ (okjr_m2 _)]
    | rw [hd _ (okjr_m21 _)]
    | rw [hd _ (okjr_or _ _)]
    | rw [hd _ (okjr_a24 _)]
    | rw [hd _ (okjr_a241 _)]
    | rw [hd _ (by assumption)]
    | (with_reducible refine R_x2_toStack' (by assumption) (by with_reducible rfl))
    | (with_reducible refine R_x2_go' (by assumption) (by with_reducible rfl))
    | (with_reducible refine R_x2_set' (by assumption) (by with_reducible rfl) (by with_reducible rfl))
    | (with_reducible refine R_x2_by' (by assumption) (by with_reducible rfl) (by with_reducible rfl))
    | (with_reducible refine R_x2_added' (by assumption) (by with_reducible rfl) (by with_reducible rfl) (by with_reducible rfl))
    | (with_reducible refine R_x2_taken' (by assumption) (by with_reducible rfl) (by with_reducible rfl) (by with_reducible rfl))
    | (with_reducible refine R_x2_takenOn' (by assumption) (by with_reducible rfl) (by with_reducible rfl))
    | (with_reducible refine R_x2_logic' (by assumption) (by with_reducible rfl))
    | (with_reducible refine R_x2_toPair' (by assumption) (by with_reducible rfl) (by with_reducible rfl) (by first | assumption | exact rgt_0 | exact rgt_0b | exact rgt_26 | exact rgt_26b | exact rgt_28 | exact rgt_28b | exact rgt_30 | exact rgt_30b | exact rgh_0 | exact rgh_1 | exact rgh_26 | exact rgh_27 | exact rgh_28 | exact rgh_29 | exact rgh_30 | exact rgh_31 | exact rgh_93 | exact rgh_94 | exact rgh_95 | exact rgh_a31 _ | exact rgh_a16 _ | exact rgh_a167 _ | exact rgh_m2 _ | exact rgh_m21 _ | exact rgh_or _ _ | exact rgh_a24 _ | exact rgh_a241 _) (by first | assumption | exact rgt_0 | exact rgt_0b | exact rgt_26 | exact rgt_26b | exact rgt_28 | exact rgt_28b | exact rgt_30 | exact rgt_30b | exact rgh_0 | exact rgh_1 | exact rgh_26 | exact rgh_27 | exact rgh_28 | exact rgh_29 | exact rgh_30 | exact rgh_31 | exact rgh_93 | exact rgh_94 | exact rgh_95 | exact rgh_a31 _ | exact rgh_a16 _ | exact rgh_a167 _ | exact rgh_m2 _ | exact rgh_m21 _ | exact rgh_or _ _ | exact rgh_a24 _ | exact rgh_a241 _))
    | (with_reducible refine R_reg (by assumption) (by with_reducible rfl) (by first | assumption | exact rgt_0 | exact rgt_0b | exact rgt_26 | exact rgt_26b | exact rgt_28 | exact rgt_28b | exact rgt_30 | exact rgt_30b | exact rgh_0 | exact rgh_1 | exact rgh_26 | exact rgh_27 | exact rgh_28 | exact rgh_29 | exact rgh_30 | exact rgh_31 | exact rgh_93 | exact rgh_94 | exact rgh_95 | exact rgh_a31 _ | exact rgh_a16 _ | exact rgh_a167 _ | exact rgh_m2 _ | exact rgh_m21 _ | exact rgh_or _ _ | exact rgh_a24 _ | exact rgh_a241 _))
    | (with_reducible refine R_pc (by assumption) (by with_reducible rfl))
    | with_reducible refine ltS_R ?_ ?_
    | with_reducible refine ltS_P ?_ ?_
    | with_reducible refine ltP_R ?_ ?_
    | with_reducible refine ltP_P ?_ ?_
    | with_reducible refine ite_R (fun _ => ?_) (fun _ => ?_)
    | with_reducible refine ite_P (fun _ => ?_) (fun _ => ?_)
    | with_reducible refine RP_i (by with_reducible rfl) ?_)
theorem R_x2_product' {b : Bool} {σ τ : Sg} (h : R b σ τ) {x1 x2 y1 y2 : Int32} (e1 : x1 = y1) (e2 : x2 = y2)  : R b (x2_product σ x1 x2) (x2_product τ y1 y2) := by
  subst e1; subst e2
  exact R_x2_product h _ _
theorem R_x2_next {b : Bool} {σ τ : Sg} (h : R b σ τ)   : RP b (x2_next σ ) (x2_next τ ) := by
  have hd := h.da; have hp := h.sc 0 rfl; have hf := h.fl; have hi := R_is h; have hl := R_isLong h; have hw := R_word h; have hst := R_stack h; have hpr := R_pair h
  unfold x2_next
  try simp only [lt_i]
  repeat' (first
    | assumption
    | (intro v s t h; have hd := h.da; have hp := h.sc 0 rfl; have hf := h.fl; have hi := R_is h; have hl := R_isLong h; have hw := R_word h; have hst := R_stack h; have hpr := R_pair h)
    | (intro s t h; have hd := h.da; have hp := h.sc 0 rfl; have hf := h.fl; have hi := R_is h; have hl := R_isLong h; have hw := R_word h; have hst := R_stack h; have hpr := R_pair h)
    | rw [hp]
    | rw [hi]
    | rw [hl]
    | rw [hw]
    | rw [hst]
    | rw [hpr 30 (regish_okj rgt_30) (regish_okj rgt_30b)]
    | rw [hpr _ (okjr_m2 _) (okjr_m21 _)]
    | rw [hpr _ (okjr_a24 _) (okjr_a241 _)]
    | rw [hd _ okj_95]
    | rw [hd _ okj_85]
    | rw [hd _ okj_93]
    | rw [hd _ okj_94]
    | rw [hd _ okj_0]
    | rw [hd _ okj_1]
    | rw [hd _ okj_30]
    | rw [hd _ (okjr_a31 _)]
    | rw [hd _ (okjr_a16 _)]
    | rw [hd _ (okjr_a167 _)]
    | rw [hd _ (okjr_m2 _)]
    | rw [hd _ (okjr_m21 _)]
    | rw [hd _ (okjr_or _ _)]
    | rw [hd _ (okjr_a24 _)]
    | rw [hd _ (okjr_a241 _)]
    | rw [hd _ (by assumption)]
    | (with_reducible refine R_x2_toStack' (by assumption) (by with_reducible rfl))
    | (with_reducible refine R_x2_go' (by assumption) (by with_reducible rfl))
    | (with_reducible refine R_x2_set' (by assumption) (by with_reducible rfl) (by with_reducible rfl))
    | (with_reducible refine R_x2_by' (by assumption) (by with_reducible rfl) (by with_reducible rfl))
    | (with_reducible refine R_x2_added' (by assumption) (by with_reducible rfl) (by with_reducible rfl) (by with_reducible rfl))
    | (with_reducible refine R_x2_taken' (by assumption) (by with_reducible rfl) (by with_reducible rfl) (by with_reducible rfl))
    | (with_reducible refine R_x2_takenOn' (by assumption) (by with_reducible rfl) (by with_reducible rfl))
    | (with_reducible refine R_x2_logic' (by assumption) (by with_reducible rfl))
    | (with_reducible refine R_x2_product' (by assumption) (by with_reducible rfl) (by with_reducible rfl))
    | (with_reducible refine R_x2_toPair' (by assumption) (by with_reducible rfl) (by with_reducible rfl) (by first | assumption | exact rgt_0 | exact rgt_0b | exact rgt_26 | exact rgt_26b | exact rgt_28 | exact rgt_28b | exact rgt_30 | exact rgt_30b | exact rgh_0 | exact rgh_1 | exact rgh_26 | exact rgh_27 | exact rgh_28 | exact rgh_29 | exact rgh_30 | exact rgh_31 | exact rgh_93 | exact rgh_94 | exact rgh_95 | exact rgh_a31 _ | exact rgh_a16 _ | exact rgh_a167 _ | exact rgh_m2 _ | exact rgh_m21 _ | exact rgh_or _ _ | exact rgh_a24 _ | exact rgh_a241 _) (by first | assumption | exact rgt_0 | exact rgt_0b | exact rgt_26 | exact rgt_26b | exact rgt_28 | exact rgt_28b | exact rgt_30 | exact rgt_30b | exact rgh_0 | exact rgh_1 | exact rgh_26 | exact rgh_27 | exact rgh_28 | exact rgh_29 | exact rgh_30 | exact rgh_31 | exact rgh_93 | exact rgh_94 | exact rgh_95 | exact rgh_a31 _ | exact rgh_a16 _ | exact rgh_a167 _ | exact rgh_m2 _ | exact rgh_m21 _ | exact rgh_or _ _ | exact rgh_a24 _ | exact rgh_a241 _))
    | (with_reducible refine R_reg (by assumption) (by with_reducible rfl) (by first | assumption | exact rgt_0 | exact rgt_0b | exact rgt_26 | exact rgt_26b | exact rgt_28 | exact rgt_28b | exact rgt_30 | exact rgt_30b | exact rgh_0 | exact rgh_1 | exact rgh_26 | exact rgh_27 | exact rgh_28 | exact rgh_29 | exact rgh_30 | exact rgh_31 | exact rgh_93 | exact rgh_94 | exact rgh_95 | exact rgh_a31 _ | exact rgh_a16 _ | exact rgh_a167 _ | exact rgh_m2 _ | exact rgh_m21 _ | exact rgh_or _ _ | exact rgh_a24 _ | exact rgh_a241 _))
    | (with_reducible refine R_pc (by assumption) (by with_reducible rfl))
    | with_reducible refine ltS_R ?_ ?_
    | with_reducible refine ltS_P ?_ ?_
    | with_reducible refine ltP_R ?_ ?_
    | with_reducible refine ltP_P ?_ ?_
    | with_reducible refine ite_R (fun _ => ?_) (fun _ => ?_)
    | with_reducible refine ite_P (fun _ => ?_) (fun _ => ?_)
    | with_reducible refine RP_i (by with_reducible rfl) ?_)
theorem R_x2_next' {b : Bool} {σ τ : Sg} (h : R b σ τ) : RP b (x2_next σ) (x2_next τ) := R_x2_next h
theorem R_x2_skip {b : Bool} {σ τ : Sg} (h : R b σ τ) (x1 : Int32)  : RP b (x2_skip σ x1) (x2_skip τ x1) := by
  have hd := h.da; have hp := h.sc 0 rfl; have hf := h.fl; have hi := R_is h; have hl := R_isLong h; have hw := R_word h; have hst := R_stack h; have hpr := R_pair h
  unfold x2_skip
  try simp only [lt_i]
  repeat' (first
    | assumption
    | (intro v s t h; have hd := h.da; have hp := h.sc 0 rfl; have hf := h.fl; have hi := R_is h; have hl := R_isLong h; have hw := R_word h; have hst := R_stack h; have hpr := R_pair h)
    | (intro s t h; have hd := h.da; have hp := h.sc 0 rfl; have hf := h.fl; have hi := R_is h; have hl := R_isLong h; have hw := R_word h; have hst := R_stack h; have hpr := R_pair h)
    | rw [hp]
    | rw [hi]
    | rw [hl]
    | rw [hw]
    | rw [hst]
    | rw [hpr 30 (regish_okj rgt_30) (regish_okj rgt_30b)]
    | rw [hpr _ (okjr_m2 _) (okjr_m21 _)]
    | rw [hpr _ (okjr_a24 _) (okjr_a241 _)]
    | rw [hd _ okj_95]
    | rw [hd _ okj_85]
    | rw [hd _ okj_93]
    | rw [hd _ okj_94]
    | rw [hd _ okj_0]
    | rw [hd _ okj_1]
    | rw [hd _ okj_30]
    | rw [hd _ (okjr_a31 _)]
    | rw [hd _ (okjr_a16 _)]
    | rw [hd _ (okjr_a167 _)]
    | rw [hd _ (okjr_m2 _)]
    | rw [hd _ (okjr_m21 _)]
    | rw [hd _ (okjr_or _ _)]
    | rw [hd _ (okjr_a24 _)]
    | rw [hd _ (okjr_a241 _)]
    | rw [hd _ (by assumption)]
    | (with_reducible refine R_x2_toStack' (by assumption) (by with_reducible rfl))
    | (with_reducible refine R_x2_go' (by assumption) (by with_reducible rfl))
    | (with_reducible refine R_x2_set' (by assumption) (by with_reducible rfl) (by with_reducible rfl))
    | (with_reducible refine R_x2_by' (by assumption) (by with_reducible rfl) (by with_reducible rfl))
    | (with_reducible refine R_x2_added' (by assumption) (by with_reducible rfl) (by with_reducible rfl) (by with_reducible rfl))
    | (with_reducible refine R_x2_taken' (by assumption) (by with_reducible rfl) (by with_reducible rfl) (by with_reducible rfl))
    | (with_reducible refine R_x2_takenOn' (by assumption) (by with_reducible rfl) (by with_reducible rfl))
    | (with_reducible refine R_x2_logic' (by assumption) (by with_reducible rfl))
    | (with_reducible refine R_x2_product' (by assumption) (by with_reducible rfl) (by with_reducible rfl))
    | (with_reducible refine R_x2_next' (by assumption))
    | (with_reducible refine R_x2_toPair' (by assumption) (by with_reducible rfl) (by with_reducible rfl) (by first | assumption | exact rgt_0 | exact rgt_0b | exact rgt_26 | exact rgt_26b | exact rgt_28 | exact rgt_28b | exact rgt_30 | exact rgt_30b | exact rgh_0 | exact rgh_1 | exact rgh_26 | exact rgh_27 | exact rgh_28 | exact rgh_29 | exact rgh_30 | exact rgh_31 | exact rgh_93 | exact rgh_94 | exact rgh_95 | exact rgh_a31 _ | exact rgh_a16 _ | exact rgh_a167 _ | exact rgh_m2 _ | exact rgh_m21 _ | exact rgh_or _ _ | exact rgh_a24 _ | exact rgh_a241 _) (by first | assumption | exact rgt_0 | exact rgt_0b | exact rgt_26 | exact rgt_26b | exact rgt_28 | exact rgt_28b | exact rgt_30 | exact rgt_30b | exact rgh_0 | exact rgh_1 | exact rgh_26 | exact rgh_27 | exact rgh_28 | exact rgh_29 | exact rgh_30 | exact rgh_31 | exact rgh_93 | exact rgh_94 | exact rgh_95 | exact rgh_a31 _ | exact rgh_a16 _ | exact rgh_a167 _ | exact rgh_m2 _ | exact rgh_m21 _ | exact rgh_or _ _ | exact rgh_a24 _ | exact rgh_a241 _))
    | (with_reducible refine R_reg (by assumption) (by with_reducible rfl) (by first | assumption | exact rgt_0 | exact rgt_0b | exact rgt_26 | exact rgt_26b | exact rgt_28 | exact rgt_28b | exact rgt_30 | exact rgt_30b | exact rgh_0 | exact rgh_1 | exact rgh_26 | exact rgh_27 | exact rgh_28 | exact rgh_29 | exact rgh_30 | exact rgh_31 | exact rgh_93 | exact rgh_94 | exact rgh_95 | exact rgh_a31 _ | exact rgh_a16 _ | exact rgh_a167 _ | exact rgh_m2 _ | exact rgh_m21 _ | exact rgh_or _ _ | exact rgh_a24 _ | exact rgh_a241 _))
    | (with_reducible refine R_pc (by assumption) (by with_reducible rfl))
    | with_reducible refine ltS_R ?_ ?_
    | with_reducible refine ltS_P ?_ ?_
    | with_reducible refine ltP_R ?_ ?_
    | with_reducible refine ltP_P ?_ ?_
    | with_reducible refine ite_R (fun _ => ?_) (fun _ => ?_)
    | with_reducible refine ite_P (fun _ => ?_) (fun _ => ?_)
    | with_reducible refine RP_i (by with_reducible rfl) ?_)
theorem R_x2_skip' {b : Bool} {σ τ : Sg} (h : R b σ τ) {x1 y1 : Int32} (e1 : x1 = y1)  : RP b (x2_skip σ x1) (x2_skip τ y1) := by
  subst e1
  exact R_x2_skip h _
theorem R_x2_constant {b : Bool} {σ τ : Sg} (h : R b σ τ) (x1 : Int32)  : RP b (x2_constant σ x1) (x2_constant τ x1) := by
  have hd := h.da; have hp := h.sc 0 rfl; have hf := h.fl; have hi := R_is h; have hl := R_isLong h; have hw := R_word h; have hst := R_stack h; have hpr := R_pair h
  unfold x2_constant
  try simp only [lt_i]
  repeat' (first
    | assumption
    | (intro v s t h; have hd := h.da; have hp := h.sc 0 rfl; have hf := h.fl; have hi := R_is h; have hl := R_isLong h; have hw := R_word h; have hst := R_stack h; have hpr := R_pair h)
    | (intro s t h; have hd := h.da; have hp := h.sc 0 rfl; have hf := h.fl; have hi := R_is h; have hl := R_isLong h; have hw := R_word h; have hst := R_stack h; have hpr := R_pair h)
    | rw [hp]
    | rw [hi]
    | rw [hl]
    | rw [hw]
    | rw [hst]
    | rw [hpr 30 (regish_okj rgt_30) (regish_okj rgt_30b)]
    | rw [hpr _ (okjr_m2 _) (okjr_m21 _)]
    | rw [hpr _ (okjr_a24 _) (okjr_a241 _)]
    | rw [hd _ okj_95]
    | rw [hd _ okj_85]
    | rw [hd _ okj_93]
    | rw [hd _ okj_94]
    | rw [hd _ okj_0]
    | rw [hd _ okj_1]
    | rw [hd _ okj_30]
    | rw [hd _ (okjr_a31 _)]
    | rw [hd _ (okjr_a16 _)]
    | rw [hd _ (okjr_a167 _)]
    | rw [hd _ (okjr_m2 _)]
    | rw [hd _ (okjr_m21 _)]
    | rw [hd _ (okjr_or _ _)]
    | rw [hd _ (okjr_a24 _)]
    | rw [hd _ (okjr_a241 _)]
    | rw [hd _ (by assumption)]
    | (with_reducible refine R_x2_toStack' (by assumption) (by with_reducible rfl))
    | (with_reducible refine R_x2_go' (by assumption) (by with_reducible rfl))
    | (with_reducible refine R_x2_set' (by assumption) (by with_reducible rfl) (by with_reducible rfl))
    | (with_reducible refine R_x2_by' (by assumption) (by with_reducible rfl) (by with_reducible rfl))
    | (with_reducible refine R_x2_added' (by assumption) (by with_reducible rfl) (by with_reducible rfl) (by with_reducible rfl))
    | (with_reducible refine R_x2_taken' (by assumption) (by with_reducible rfl) (by with_reducible rfl) (by with_reducible rfl))
    | (with_reducible refine R_x2_takenOn' (by assumption) (by with_reducible rfl) (by with_reducible rfl))
    | (with_reducible refine R_x2_logic' (by assumption) (by with_reducible rfl))
    | (with_reducible refine R_x2_product' (by assumption) (by with_reducible rfl) (by with_reducible rfl))
    | (with_reducible refine R_x2_next' (by assumption))
    | (with_reducible refine R_x2_skip' (by assumption) (by with_reducible rfl))
    | (with_reducible refine R_x2_toPair' (by assumption) (by with_reducible rfl) (by with_reducible rfl) (by first | assumption | exact rgt_0 | exact rgt_0b | exact rgt_26 | exact rgt_26b | exact rgt_28 | exact rgt_28b | exact rgt_30 | exact rgt_30b | exact rgh_0 | exact rgh_1 | exact rgh_26 | exact rgh_27 | exact rgh_28 | exact rgh_29 | exact rgh_30 | exact rgh_31 | exact rgh_93 | exact rgh_94 | exact rgh_95 | exact rgh_a31 _ | exact rgh_a16 _ | exact rgh_a167 _ | exact rgh_m2 _ | exact rgh_m21 _ | exact rgh_or _ _ | exact rgh_a24 _ | exact rgh_a241 _) (by first | assumption | exact rgt_0 | exact rgt_0b | exact rgt_26 | exact rgt_26b | exact rgt_28 | exact rgt_28b | exact rgt_30 | exact rgt_30b | exact rgh_0 | exact rgh_1 | exact rgh_26 | exact rgh_27 | exact rgh_28 | exact rgh_29 | exact rgh_30 | exact rgh_31 | exact rgh_93 | exact rgh_94 | exact rgh_95 | exact rgh_a31 _ | exact rgh_a16 _ | exact rgh_a167 _ | exact rgh_m2 _ | exact rgh_m21 _ | exact rgh_or _ _ | exact rgh_a24 _ | exact rgh_a241 _))
    | (with_reducible refine R_reg (by assumption) (by with_reducible rfl) (by first | assumption | exact rgt_0 | exact rgt_0b | exact rgt_26 | exact rgt_26b | exact rgt_28 | exact rgt_28b | exact rgt_30 | exact rgt_30b | exact rgh_0 | exact rgh_1 | exact rgh_26 | exact rgh_27 | exact rgh_28 | exact rgh_29 | exact rgh_30 | exact rgh_31 | exact rgh_93 | exact rgh_94 | exact rgh_95 | exact rgh_a31 _ | exact rgh_a16 _ | exact rgh_a167 _ | exact rgh_m2 _ | exact rgh_m21 _ | exact rgh_or _ _ | exact rgh_a24 _ | exact rgh_a241 _))
    | (with_reducible refine R_pc (by assumption) (by with_reducible rfl))
    | with_reducible refine ltS_R ?_ ?_
    | with_reducible refine ltS_P ?_ ?_
    | with_reducible refine ltP_R ?_ ?_
    | with_reducible refine ltP_P ?_ ?_
    | with_reducible refine ite_R (fun _ => ?_) (fun _ => ?_)
    | with_reducible refine ite_P (fun _ => ?_) (fun _ => ?_)
    | with_reducible refine RP_i (by with_reducible rfl) ?_)
theorem R_x2_constant' {b : Bool} {σ τ : Sg} (h : R b σ τ) {x1 y1 : Int32} (e1 : x1 = y1)  : RP b (x2_constant σ x1) (x2_constant τ y1) := by
  subst e1
  exact R_x2_constant h _
theorem R_x2_pairs {b : Bool} {σ τ : Sg} (h : R b σ τ) (x1 : Int32)  : RP b (x2_pairs σ x1) (x2_pairs τ x1) := by
  have hd := h.da; have hp := h.sc 0 rfl; have hf := h.fl; have hi := R_is h; have hl := R_isLong h; have hw := R_word h; have hst := R_stack h; have hpr := R_pair h
  unfold x2_pairs
  try simp only [lt_i]
  repeat' (first
    | assumption
    | (intro v s t h; have hd := h.da; have hp := h.sc 0 rfl; have hf := h.fl; have hi := R_is h; have hl := R_isLong h; have hw := R_word h; have hst := R_stack h; have hpr := R_pair h)
    | (intro s t h; have hd := h.da; have hp := h.sc 0 rfl; have hf := h.fl; have hi := R_is h; have hl := R_isLong h; have hw := R_word h; have hst := R_stack h; have hpr := R_pair h)
    | rw [hp]
    | rw [hi]
    | rw [hl]
    | rw [hw]
    | rw [hst]
    | rw [hpr 30 (regish_okj rgt_30) (regish_okj rgt_30b)]
    | rw [hpr _ (okjr_m2 _) (okjr_m21 _)]
    | rw [hpr _ (okjr_a24 _) (okjr_a241 _)]
    | rw [hd _ okj_95]
    | rw [hd _ okj_85]
    | rw [hd _ okj_93]
    | rw [hd _ okj_94]
    | rw [hd _ okj_0]
    | rw [hd _ okj_1]
    | rw [hd _ okj_30]
    | rw [hd _ (okjr_a31 _)]
    | rw [hd _ (okjr_a16 _)]
    | rw [hd _ (okjr_a167 _)]
    | rw [hd _ (okjr_m2 _)]
    | rw [hd _ (okjr_m21 _)]
    | rw [hd _ (okjr_or _ _)]
    | rw [hd _ (okjr_a24 _)]
    | rw [hd _ (okjr_a241 _)]
    | rw [hd _ (by assumption)]
    | (with_reducible refine R_x2_toStack' (by assumption) (by with_reducible rfl))
    | (with_reducible refine R_x2_go' (by assumption) (by with_reducible rfl))
    | (with_reducible refine R_x2_set' (by assumption) (by with_reducible rfl) (by with_reducible rfl))
    | (with_reducible refine R_x2_by' (by assumption) (by with_reducible rfl) (by with_reducible rfl))
    | (with_reducible refine R_x2_added' (by assumption) (by with_reducible rfl) (by with_reducible rfl) (by with_reducible rfl))
    | (with_reducible refine R_x2_taken' (by assumption) (by with_reducible rfl) (by with_reducible rfl) (by with_reducible rfl))
    | (with_reducible refine R_x2_takenOn' (by assumption) (by with_reducible rfl) (by with_reducible rfl))
    | (with_reducible refine R_x2_logic' (by assumption) (by with_reducible rfl))
    | (with_reducible refine R_x2_product' (by assumption) (by with_reducible rfl) (by with_reducible rfl))
    | (with_reducible refine R_x2_next' (by assumption))
    | (with_reducible refine R_x2_skip' (by assumption) (by with_reducible rfl))
    | (with_reducible refine R_x2_constant' (by assumption) (by with_reducible rfl))
    | (with_reducible refine R_x2_toPair' (by assumption) (by with_reducible rfl) (by with_reducible rfl) (by first | assumption | exact rgt_0 | exact rgt_0b | exact rgt_26 | exact rgt_26b | exact rgt_28 | exact rgt_28b | exact rgt_30 | exact rgt_30b | exact rgh_0 | exact rgh_1 | exact rgh_26 | exact rgh_27 | exact rgh_28 | exact rgh_29 | exact rgh_30 | exact rgh_31 | exact rgh_93 | exact rgh_94 | exact rgh_95 | exact rgh_a31 _ | exact rgh_a16 _ | exact rgh_a167 _ | exact rgh_m2 _ | exact rgh_m21 _ | exact rgh_or _ _ | exact rgh_a24 _ | exact rgh_a241 _) (by first | assumption | exact rgt_0 | exact rgt_0b | exact rgt_26 | exact rgt_26b | exact rgt_28 | exact rgt_28b | exact rgt_30 | exact rgt_30b | exact rgh_0 | exact rgh_1 | exact rgh_26 | exact rgh_27 | exact rgh_28 | exact rgh_29 | exact rgh_30 | exact rgh_31 | exact rgh_93 | exact rgh_94 | exact rgh_95 | exact rgh_a31 _ | exact rgh_a16 _ | exact rgh_a167 _ | exact rgh_m2 _ | exact rgh_m21 _ | exact rgh_or _ _ | exact rgh_a24 _ | exact rgh_a241 _))
    | (with_reducible refine R_reg (by assumption) (by with_reducible rfl) (by first | assumption | exact rgt_0 | exact rgt_0b | exact rgt_26 | exact rgt_26b | exact rgt_28 | exact rgt_28b | exact rgt_30 | exact rgt_30b | exact rgh_0 | exact rgh_1 | exact rgh_26 | exact rgh_27 | exact rgh_28 | exact rgh_29 | exact rgh_30 | exact rgh_31 | exact rgh_93 | exact rgh_94 | exact rgh_95 | exact rgh_a31 _ | exact rgh_a16 _ | exact rgh_a167 _ | exact rgh_m2 _ | exact rgh_m21 _ | exact rgh_or _ _ | exact rgh_a24 _ | exact rgh_a241 _))
    | (with_reducible refine R_pc (by assumption) (by with_reducible rfl))
    | with_reducible refine ltS_R ?_ ?_
    | with_reducible refine ltS_P ?_ ?_
    | with_reducible refine ltP_R ?_ ?_
    | with_reducible refine ltP_P ?_ ?_
    | with_reducible refine ite_R (fun _ => ?_) (fun _ => ?_)
    | with_reducible refine ite_P (fun _ => ?_) (fun _ => ?_)
    | with_reducible refine RP_i (by with_reducible rfl) ?_)
theorem R_x2_pairs' {b : Bool} {σ τ : Sg} (h : R b σ τ) {x1 y1 : Int32} (e1 : x1 = y1)  : RP b (x2_pairs σ x1) (x2_pairs τ y1) := by
  subst e1
  exact R_x2_pairs h _
theorem R_x2_twoRegisters {b : Bool} {σ τ : Sg} (h : R b σ τ) (x1 : Int32)  : RP b (x2_twoRegisters σ x1) (x2_twoRegisters τ x1) := by
  have hd := h.da; have hp := h.sc 0 rfl; have hf := h.fl; have hi := R_is h; have hl := R_isLong h; have hw := R_word h; have hst := R_stack h; have hpr := R_pair h
  unfold x2_twoRegisters
  try simp only [lt_i]
  repeat' (first
    | assumption
    | (intro v s t h; have hd := h.da; have hp := h.sc 0 rfl; have hf := h.fl; have hi := R_is h; have hl := R_isLong h; have hw := R_word h; have hst := R_stack h; have hpr := R_pair h)
    | (intro s t h; have hd := h.da; have hp := h.sc 0 rfl; have hf := h.fl; have hi := R_is h; have hl := R_isLong h; have hw := R_word h; have hst := R_stack h; have hpr := R_pair h)
    | rw [hp]
    | rw [hi]
    | rw [hl]
    | rw [hw]
    | rw [hst]
    | rw [hpr 30 (regish_okj rgt_30) (regish_okj rgt_30b)]
    | rw [hpr _ (okjr_m2 _) (okjr_m21 _)]
    | rw [hpr _ (okjr_a24 _) (okjr_a241 _)]
    | rw [hd _ okj_95]
    | rw [hd _ okj_85]
    | rw [hd _ okj_93]
    | rw [hd _ okj_94]
    | rw [hd _ okj_0]
    | rw [hd _ okj_1]
    | rw [hd _ okj_30]
    | rw [hd _ (okjr_a31 _)]
    | rw [hd _ (okjr_a16 _)]
    | rw [hd _ (okjr_a167 _)]
    | rw [hd _ (okjr_m2 _)]
    | rw [hd _ (okjr_m21 _)]
    | rw [hd _ (okjr_or _ _)]
    | rw [hd _ (okjr_a24 _)]
    | rw [hd _ (okjr_a241 _)]
    | rw [hd _ (by assumption)]
    | (with_reducible refine R_x2_toStack' (by assumption) (by with_reducible rfl))
    | (with_reducible refine R_x2_go' (by assumption) (by with_reducible rfl))
    | (with_reducible refine R_x2_set' (by assumption) (by with_reducible rfl) (by with_reducible rfl))
    | (with_reducible refine R_x2_by' (by assumption) (by with_reducible rfl) (by with_reducible rfl))
    | (with_reducible refine R_x2_added' (by assumption) (by with_reducible rfl) (by with_reducible rfl) (by with_reducible rfl))
    | (with_reducible refine R_x2_taken' (by assumption) (by with_reducible rfl) (by with_reducible rfl) (by with_reducible rfl))
    | (with_reducible refine R_x2_takenOn' (by assumption) (by with_reducible rfl) (by with_reducible rfl))
    | (with_reducible refine R_x2_logic' (by assumption) (by with_reducible rfl))
    | (with_reducible refine R_x2_product' (by assumption) (by with_reducible rfl) (by with_reducible rfl))
    | (with_reducible refine R_x2_next' (by assumption))
    | (with_reducible refine R_x2_skip' (by assumption) (by with_reducible rfl))
    | (with_reducible refine R_x2_constant' (by assumption) (by with_reducible rfl))
    | (with_reducible refine R_x2_pairs' (by assumption) (by with_reducible rfl))
    | (with_reducible refine R_x2_toPair' (by assumption) (by with_reducible rfl) (by with_reducible rfl) (by first | assumption | exact rgt_0 | exact rgt_0b | exact rgt_26 | exact rgt_26b | exact rgt_28 | exact rgt_28b | exact rgt_30 | exact rgt_30b | exact rgh_0 | exact rgh_1 | exact rgh_26 | exact rgh_27 | exact rgh_28 | exact rgh_29 | exact rgh_30 | exact rgh_31 | exact rgh_93 | exact rgh_94 | exact rgh_95 | exact rgh_a31 _ | exact rgh_a16 _ | exact rgh_a167 _ | exact rgh_m2 _ | exact rgh_m21 _ | exact rgh_or _ _ | exact rgh_a24 _ | exact rgh_a241 _) (by first | assumption | exact rgt_0 | exact rgt_0b | exact rgt_26 | exact rgt_26b | exact rgt_28 | exact rgt_28b | exact rgt_30 | exact rgt_30b | exact rgh_0 | exact rgh_1 | exact rgh_26 | exact rgh_27 | exact rgh_28 | exact rgh_29 | exact rgh_30 | exact rgh_31 | exact rgh_93 | exact rgh_94 | exact rgh_95 | exact rgh_a31 _ | exact rgh_a16 _ | exact rgh_a167 _ | exact rgh_m2 _ | exact rgh_m21 _ | exact rgh_or _ _ | exact rgh_a24 _ | exact rgh_a241 _))
    | (with_reducible refine R_reg (by assumption) (by with_reducible rfl) (by first | assumption | exact rgt_0 | exact rgt_0b | exact rgt_26 | exact rgt_26b | exact rgt_28 | exact rgt_28b | exact rgt_30 | exact rgt_30b | exact rgh_0 | exact rgh_1 | exact rgh_26 | exact rgh_27 | exact rgh_28 | exact rgh_29 | exact rgh_30 | exact rgh_31 | exact rgh_93 | exact rgh_94 | exact rgh_95 | exact rgh_a31 _ | exact rgh_a16 _ | exact rgh_a167 _ | exact rgh_m2 _ | exact rgh_m21 _ | exact rgh_or _ _ | exact rgh_a24 _ | exact rgh_a241 _))
    | (with_reducible refine R_pc (by assumption) (by with_reducible rfl))
    | with_reducible refine ltS_R ?_ ?_
    | with_reducible refine ltS_P ?_ ?_
    | with_reducible refine ltP_R ?_ ?_
    | with_reducible refine ltP_P ?_ ?_
    | with_reducible refine ite_R (fun _ => ?_) (fun _ => ?_)
    | with_reducible refine ite_P (fun _ => ?_) (fun _ => ?_)
    | with_reducible refine RP_i (by with_reducible rfl) ?_)
theorem R_x2_twoRegisters' {b : Bool} {σ τ : Sg} (h : R b σ τ) {x1 y1 : Int32} (e1 : x1 = y1)  : RP b (x2_twoRegisters σ x1) (x2_twoRegisters τ y1) := by
  subst e1
  exact R_x2_twoRegisters h _
theorem R_x2_words {b : Bool} {σ τ : Sg} (h : R b σ τ) (x1 : Int32)  : RP b (x2_words σ x1) (x2_words τ x1) := by
  have hd := h.da; have hp := h.sc 0 rfl; have hf := h.fl; have hi := R_is h; have hl := R_isLong h; have hw := R_word h; have hst := R_stack h; have hpr := R_pair h
  unfold x2_words
  try simp only [lt_i]
  repeat' (first
    | assumption
    | (intro v s t h; have hd := h.da; have hp := h.sc 0 rfl; have hf := h.fl; have hi := R_is h; have hl := R_isLong h; have hw := R_word h; have hst := R_stack h; have hpr := R_pair h)
    | (intro s t h; have hd := h.da; have hp := h.sc 0 rfl; have hf := h.fl; have hi := R_is h; have hl := R_isLong h; have hw := R_word h; have hst := R_stack h; have hpr := R_pair h)
    | rw [hp]
    | rw [hi]
    | rw [hl]
    | rw [hw]
    | rw [hst]
    | rw [hpr 30 (regish_okj rgt_30) (regish_okj rgt_30b)]
    | rw [hpr _ (okjr_m2 _) (okjr_m21 _)]
    | rw [hpr _ (okjr_a24 _) (okjr_a241 _)]
    | rw [hd _ okj_95]
    | rw [hd _ okj_85]
    | rw [hd _ okj_93]
    | rw [hd _ okj_94]
    | rw [hd _ okj_0]
    | rw [hd _ okj_1]
    | rw [hd _ okj_30]
    | rw [hd _ (okjr_a31 _)]
    | rw [hd _ (okjr_a16 _)]
    | rw [hd _ (okjr_a167 _)]
    | rw [hd _ (okjr_m2 _)]
    | rw [hd _ (okjr_m21 _)]
    | rw [hd _ (okjr_or _ _)]
    | rw [hd _ (okjr_a24 _)]
    | rw [hd _ (okjr_a241 _)]
    | rw [hd _ (by assumption)]
    | (with_reducible refine R_x2_toStack' (by assumption) (by with_reducible rfl))
    | (with_reducible refine R_x2_go' (by assumption) (by with_reducible rfl))
    | (with_reducible refine R_x2_set' (by assumption) (by with_reducible rfl) (by with_reducible rfl))
    | (with_reducible refine R_x2_by' (by assumption) (by with_reducible rfl) (by with_reducible rfl))
    | (with_reducible refine R_x2_added' (by assumption) (by with_reducible rfl) (by with_reducible rfl) (by with_reducible rfl))
    | (with_reducible refine R_x2_taken' (by assumption) (by with_reducible rfl) (by with_reducible rfl) (by with_reducible rfl))
    | (with_reducible refine R_x2_takenOn' (by assumption) (by with_reducible rfl) (by with_reducible rfl))
    | (with_reducible refine R_x2_logic' (by assumption) (by with_reducible rfl))
    | (with_reducible refine R_x2_product' (by assumption) (by with_reducible rfl) (by with_reducible rfl))
    | (with_reducible refine R_x2_next' (by assumption))
    | (with_reducible refine R_x2_skip' (by assumption) (by with_reducible rfl))
    | (with_reducible refine R_x2_constant' (by assumption) (by with_reducible rfl))
    | (with_reducible refine R_x2_pairs' (by assumption) (by with_reducible rfl))
    | (with_reducible refine R_x2_twoRegisters' (by assumption) (by with_reducible rfl))
    | (with_reducible refine R_x2_toPair' (by assumption) (by with_reducible rfl) (by with_reducible rfl) (by first | assumption | exact rgt_0 | exact rgt_0b | exact rgt_26 | exact rgt_26b | exact rgt_28 | exact rgt_28b | exact rgt_30 | exact rgt_30b | exact rgh_0 | exact rgh_1 | exact rgh_26 | exact rgh_27 | exact rgh_28 | exact rgh_29 | exact rgh_30 | exact rgh_31 | exact rgh_93 | exact rgh_94 | exact rgh_95 | exact rgh_a31 _ | exact rgh_a16 _ | exact rgh_a167 _ | exact rgh_m2 _ | exact rgh_m21 _ | exact rgh_or _ _ | exact rgh_a24 _ | exact rgh_a241 _) (by first | assumption | exact rgt_0 | exact rgt_0b | exact rgt_26 | exact rgt_26b | exact rgt_28 | exact rgt_28b | exact rgt_30 | exact rgt_30b | exact rgh_0 | exact rgh_1 | exact rgh_26 | exact rgh_27 | exact rgh_28 | exact rgh_29 | exact rgh_30 | exact rgh_31 | exact rgh_93 | exact rgh_94 | exact rgh_95 | exact rgh_a31 _ | exact rgh_a16 _ | exact rgh_a167 _ | exact rgh_m2 _ | exact rgh_m21 _ | exact rgh_or _ _ | exact rgh_a24 _ | exact rgh_a241 _))
    | (with_reducible refine R_reg (by assumption) (by with_reducible rfl) (by first | assumption | exact rgt_0 | exact rgt_0b | exact rgt_26 | exact rgt_26b | exact rgt_28 | exact rgt_28b | exact rgt_30 | exact rgt_30b | exact rgh_0 | exact rgh_1 | exact rgh_26 | exact rgh_27 | exact rgh_28 | exact rgh_29 | exact rgh_30 | exact rgh_31 | exact rgh_93 | exact rgh_94 | exact rgh_95 | exact rgh_a31 _ | exact rgh_a16 _ | exact rgh_a167 _ | exact rgh_m2 _ | exact rgh_m21 _ | exact rgh_or _ _ | exact rgh_a24 _ | exact rgh_a241 _))
    | (with_reducible refine R_pc (by assumption) (by with_reducible rfl))
    | with_reducible refine ltS_R ?_ ?_
    | with_reducible refine ltS_P ?_ ?_
    | with_reducible refine ltP_R ?_ ?_
    | with_reducible refine ltP_P ?_ ?_
    | with_reducible refine ite_R (fun _ => ?_) (fun _ => ?_)
    | with_reducible refine ite_P (fun _ => ?_) (fun _ => ?_)
    | with_reducible refine RP_i (by with_reducible rfl) ?_)
theorem R_x2_words' {b : Bool} {σ τ : Sg} (h : R b σ τ) {x1 y1 : Int32} (e1 : x1 = y1)  : RP b (x2_words σ x1) (x2_words τ y1) := by
  subst e1
  exact R_x2_words h _
theorem R_x2_shifted {b : Bool} {σ τ : Sg} (h : R b σ τ) (x1 x2 : Int32) (hr : regish x1.toNatClampNeg = true) : R b (x2_shifted σ x1 x2) (x2_shifted τ x1 x2) := by
  have hd := h.da; have hp := h.sc 0 rfl; have hf := h.fl; have hi := R_is h; have hl := R_isLong h; have hw := R_word h; have hst := R_stack h; have hpr := R_pair h
  have ho := regish_okj hr
  unfold x2_shifted
  try simp only [lt_i]
  repeat' (first
    | assumption
    | (intro v s t h; have hd := h.da; have hp := h.sc 0 rfl; have hf := h.fl; have hi := R_is h; have hl := R_isLong h; have hw := R_word h; have hst := R_stack h; have hpr := R_pair h)
    | (intro s t h; have hd := h.da; have hp := h.sc 0 rfl; have hf := h.fl; have hi := R_is h; have hl := R_isLong h; have hw := R_word h; have hst := R_stack h; have hpr := R_pair h)
    | rw [hp]
    | rw [hi]
    | rw [hl]
    | rw [hw]
    | rw [hst]
    | rw [hpr 30 (regish_okj rgt_30) (regish_okj rgt_30b)]
    | rw [hpr _ (okjr_m2 _) (okjr_m21 _)]
    | rw [hpr _ (okjr_a24 _) (okjr_a241 _)]
    | rw [hd _ okj_95]
    | rw [hd _ okj_85]
    | rw [hd _ okj_93]
    | rw [hd _ okj_94]
    | rw [hd _ okj_0]
    | rw [hd _ okj_1]
    | rw [hd _ okj_30]
    | rw [hd _ (okjr_a31 _)]
    | rw [hd _ (okjr_a16 _)]
    | rw [hd _ (okjr_a167 _)]
    | rw [hd _ (okjr_m2 _)]
    | rw [hd _ (okjr_m21 _)]
    | rw [hd _ (okjr_or _ _)]
    | rw [hd _ (okjr_a24 _)]
    | rw [hd _ (okjr_a241 _)]
    | rw [hd _ (by assumption)]
    | (with_reducible refine R_x2_toStack' (by assumption) (by with_reducible rfl))
    | (with_reducible refine R_x2_go' (by assumption) (by with_reducible rfl))
    | (with_reducible refine R_x2_set' (by assumption) (by with_reducible rfl) (by with_reducible rfl))
    | (with_reducible refine R_x2_by' (by assumption) (by with_reducible rfl) (by with_reducible rfl))
    | (with_reducible refine R_x2_added' (by assumption) (by with_reducible rfl) (by with_reducible rfl) (by with_reducible rfl))
    | (with_reducible refine R_x2_taken' (by assumption) (by with_reducible rfl) (by with_reducible rfl) (by with_reducible rfl))
    | (with_reducible refine R_x2_takenOn' (by assumption) (by with_reducible rfl) (by with_reducible rfl))
    | (with_reducible refine R_x2_logic' (by assumption) (by with_reducible rfl))
    | (with_reducible refine R_x2_product' (by assumption) (by with_reducible rfl) (by with_reducible rfl))
    | (with_reducible refine R_x2_next' (by assumption))
    | (with_reducible refine R_x2_skip' (by assumption) (by with_reducible rfl))
    | (with_reducible refine R_x2_constant' (by assumption) (by with_reducible rfl))
    | (with_reducible refine R_x2_pairs' (by assumption) (by with_reducible rfl))
    | (with_reducible refine R_x2_twoRegisters' (by assumption) (by with_reducible rfl))
    | (with_reducible refine R_x2_words' (by assumption) (by with_reducible rfl))
    | (with_reducible refine R_x2_toPair' (by assumption) (by with_reducible rfl) (by with_reducible rfl) (by first | assumption | exact rgt_0 | exact rgt_0b | exact rgt_26 | exact rgt_26b | exact rgt_28 | exact rgt_28b | exact rgt_30 | exact rgt_30b | exact rgh_0 | exact rgh_1 | exact rgh_26 | exact rgh_27 | exact rgh_28 | exact rgh_29 | exact rgh_30 | exact rgh_31 | exact rgh_93 | exact rgh_94 | exact rgh_95 | exact rgh_a31 _ | exact rgh_a16 _ | exact rgh_a167 _ | exact rgh_m2 _ | exact rgh_m21 _ | exact rgh_or _ _ | exact rgh_a24 _ | exact rgh_a241 _) (by first | assumption | exact rgt_0 | exact rgt_0b | exact rgt_26 | exact rgt_26b | exact rgt_28 | exact rgt_28b | exact rgt_30 | exact rgt_30b | exact rgh_0 | exact rgh_1 | exact rgh_26 | exact rgh_27 | exact rgh_28 | exact rgh_29 | exact rgh_30 | exact rgh_31 | exact rgh_93 | exact rgh_94 | exact rgh_95 | exact rgh_a31 _ | exact rgh_a16 _ | exact rgh_a167 _ | exact rgh_m2 _ | exact rgh_m21 _ | exact rgh_or _ _ | exact rgh_a24 _ | exact rgh_a241 _))
    | (with_reducible refine R_reg (by assumption) (by with_reducible rfl) (by first | assumption | exact rgt_0 | exact rgt_0b | exact rgt_26 | exact rgt_26b | exact rgt_28 | exact rgt_28b | exact rgt_30 | exact rgt_30b | exact rgh_0 | exact rgh_1 | exact rgh_26 | exact rgh_27 | exact rgh_28 | exact rgh_29 | exact rgh_30 | exact rgh_31 | exact rgh_93 | exact rgh_94 | exact rgh_95 | exact rgh_a31 _ | exact rgh_a16 _ | exact rgh_a167 _ | exact rgh_m2 _ | exact rgh_m21 _ | exact rgh_or _ _ | exact rgh_a24 _ | exact rgh_a241 _))
    | (with_reducible refine R_pc (by assumption) (by with_reducible rfl))
    | with_reducible refine ltS_R ?_ ?_
    | with_reducible refine ltS_P ?_ ?_
    | with_reducible refine ltP_R ?_ ?_
    | with_reducible refine ltP_P ?_ ?_
    | with_reducible refine ite_R (fun _ => ?_) (fun _ => ?_)
    | with_reducible refine ite_P (fun _ => ?_) (fun _ => ?_)
    | with_reducible refine RP_i (by with_reducible rfl) ?_)
theorem R_x2_shifted' {b : Bool} {σ τ : Sg} (h : R b σ τ) {x1 x2 y1 y2 : Int32} (e1 : x1 = y1) (e2 : x2 = y2) (hr : regish x1.toNatClampNeg = true) : R b (x2_shifted σ x1 x2) (x2_shifted τ y1 y2) := by
  subst e1; subst e2
  exact R_x2_shifted h _ _ hr
theorem R_x2_bits {b : Bool} {σ τ : Sg} (h : R b σ τ) (x1 : Int32)  : RP b (x2_bits σ x1) (x2_bits τ x1) := by
  have hd := h.da; have hp := h.sc 0 rfl; have hf := h.fl; have hi := R_is h; have hl := R_isLong h; have hw := R_word h; have hst := R_stack h; have hpr := R_pair h
  unfold x2_bits
  try simp only [lt_i]
  repeat' (first
    | assumption
    | (intro v s t h; have hd := h.da; have hp := h.sc 0 rfl; have hf := h.fl; have hi := R_is h; have hl := R_isLong h; have hw := R_word h; have hst := R_stack h; have hpr := R_pair h)
    | (intro s t h; have hd := h.da; have hp := h.sc 0 rfl; have hf := h.fl; have hi := R_is h; have hl := R_isLong h; have hw := R_word h; have hst := R_stack h; have hpr := R_pair h)
    | rw [hp]
    | rw [hi]
    | rw [hl]
    | rw [hw]
    | rw [hst]
    | rw [hpr 30 (regish_okj rgt_30) (regish_okj rgt_30b)]
    | rw [hpr _ (okjr_m2 _) (okjr_m21 _)]
    | rw [hpr _ (okjr_a24 _) (okjr_a241 _)]
    | rw [hd _ okj_95]
    | rw [hd _ okj_85]
    | rw [hd _ okj_93]
    | rw [hd _ okj_94]
    | rw [hd _ okj_0]
    | rw [hd _ okj_1]
    | rw [hd _ okj_30]
    | rw [hd _ (okjr_a31 _)]
    | rw [hd _ (okjr_a16 _)]
    | rw [hd _ (okjr_a167 _)]
    | rw [hd _ (okjr_m2 _)]
    | rw [hd _ (okjr_m21 _)]
    | rw [hd _ (okjr_or _ _)]
    | rw [hd _ (okjr_a24 _)]
    | rw [hd _ (okjr_a241 _)]
    | rw [hd _ (by assumption)]
    | (with_reducible refine R_x2_toStack' (by assumption) (by with_reducible rfl))
    | (with_reducible refine R_x2_go' (by assumption) (by with_reducible rfl))
    | (with_reducible refine R_x2_set' (by assumption) (by with_reducible rfl) (by with_reducible rfl))
    | (with_reducible refine R_x2_by' (by assumption) (by with_reducible rfl) (by with_reducible rfl))
    | (with_reducible refine R_x2_added' (by assumption) (by with_reducible rfl) (by with_reducible rfl) (by with_reducible rfl))
    | (with_reducible refine R_x2_taken' (by assumption) (by with_reducible rfl) (by with_reducible rfl) (by with_reducible rfl))
    | (with_reducible refine R_x2_takenOn' (by assumption) (by with_reducible rfl) (by with_reducible rfl))
    | (with_reducible refine R_x2_logic' (by assumption) (by with_reducible rfl))
    | (with_reducible refine R_x2_product' (by assumption) (by with_reducible rfl) (by with_reducible rfl))
    | (with_reducible refine R_x2_next' (by assumption))
    | (with_reducible refine R_x2_skip' (by assumption) (by with_reducible rfl))
    | (with_reducible refine R_x2_constant' (by assumption) (by with_reducible rfl))
    | (with_reducible refine R_x2_pairs' (by assumption) (by with_reducible rfl))
    | (with_reducible refine R_x2_twoRegisters' (by assumption) (by with_reducible rfl))
    | (with_reducible refine R_x2_words' (by assumption) (by with_reducible rfl))
    | (with_reducible refine R_x2_toPair' (by assumption) (by with_reducible rfl) (by with_reducible rfl) (by first | assumption | exact rgt_0 | exact rgt_0b | exact rgt_26 | exact rgt_26b | exact rgt_28 | exact rgt_28b | exact rgt_30 | exact rgt_30b | exact rgh_0 | exact rgh_1 | exact rgh_26 | exact rgh_27 | exact rgh_28 | exact rgh_29 | exact rgh_30 | exact rgh_31 | exact rgh_93 | exact rgh_94 | exact rgh_95 | exact rgh_a31 _ | exact rgh_a16 _ | exact rgh_a167 _ | exact rgh_m2 _ | exact rgh_m21 _ | exact rgh_or _ _ | exact rgh_a24 _ | exact rgh_a241 _) (by first | assumption | exact rgt_0 | exact rgt_0b | exact rgt_26 | exact rgt_26b | exact rgt_28 | exact rgt_28b | exact rgt_30 | exact rgt_30b | exact rgh_0 | exact rgh_1 | exact rgh_26 | exact rgh_27 | exact rgh_28 | exact rgh_29 | exact rgh_30 | exact rgh_31 | exact rgh_93 | exact rgh_94 | exact rgh_95 | exact rgh_a31 _ | exact rgh_a16 _ | exact rgh_a167 _ | exact rgh_m2 _ | exact rgh_m21 _ | exact rgh_or _ _ | exact rgh_a24 _ | exact rgh_a241 _))
    | (with_reducible refine R_reg (by assumption) (by with_reducible rfl) (by first | assumption | exact rgt_0 | exact rgt_0b | exact rgt_26 | exact rgt_26b | exact rgt_28 | exact rgt_28b | exact rgt_30 | exact rgt_30b | exact rgh_0 | exact rgh_1 | exact rgh_26 | exact rgh_27 | exact rgh_28 | exact rgh_29 | exact rgh_30 | exact rgh_31 | exact rgh_93 | exact rgh_94 | exact rgh_95 | exact rgh_a31 _ | exact rgh_a16 _ | exact rgh_a167 _ | exact rgh_m2 _ | exact rgh_m21 _ | exact rgh_or _ _ | exact rgh_a24 _ | exact rgh_a241 _))
    | (with_reducible refine R_pc (by assumption) (by with_reducible rfl))
    | with_reducible refine ltS_R ?_ ?_
    | with_reducible refine ltS_P ?_ ?_
    | with_reducible refine ltP_R ?_ ?_
    | with_reducible refine ltP_P ?_ ?_
    | with_reducible refine ite_R (fun _ => ?_) (fun _ => ?_)
    | with_reducible refine ite_P (fun _ => ?_) (fun _ => ?_)
    | with_reducible refine RP_i (by with_reducible rfl) ?_)
theorem R_x2_bits' {b : Bool} {σ τ : Sg} (h : R b σ τ) {x1 y1 : Int32} (e1 : x1 = y1)  : RP b (x2_bits σ x1) (x2_bits τ y1) := by
  subst e1
  exact R_x2_bits h _
