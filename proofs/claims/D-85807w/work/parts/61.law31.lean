/-! PLAIN LAW 31: isOn (8) is left alone by whole steps (printed by gen_law31.py) -/
set_option maxRecDepth 100000
theorem Fr_iter {j : Nat} {c : Int32} {f : Nat → Sg → Sg} (hf : ∀ i s, Fr j c s → Fr j c (f i s)) : ∀ (n i : Nat) (s : Sg), Fr j c s → Fr j c (iterN n i f s) := by
  intro n
  induction n with
  | zero => intro i s h; exact h
  | succ n ih => intro i s h; exact ih (i + 1) _ (hf i s h)
theorem Fr_iter' {j : Nat} {c : Int32} {f : Nat → Sg → Sg} {n i : Nat} {s : Sg} (h : Fr j c s) (hf : ∀ i s, Fr j c s → Fr j c (f i s)) : Fr j c (iterN n i f s) := Fr_iter hf n i s h
theorem F8_x4_store {c : Int32} {s : Sg} (h : Fr 8 c s) (x1 x2 : Int32) : Fr 8 c (x4_store s x1 x2) := by
  unfold x4_store
  repeat' (first
    | assumption
    | (intro i s h)
    | (intro v s h)
    | (intro s h)
    | (intro x)
    | (with_reducible refine Fr_k ?_ (by decide))
    | (with_reducible refine Fr_0 ?_ (by decide))
    | with_reducible refine Fr_iter' ?_ ?_
    | with_reducible refine Fr_ite ?_ ?_
    | with_reducible refine FrP_ite ?_ ?_
    | with_reducible refine Fr_ltS ?_ ?_
    | with_reducible refine Fr_ltP ?_ ?_
    | with_reducible refine Fr_lti ?_
    | with_reducible refine FrP_ltS ?_ ?_
    | with_reducible refine FrP_ltP ?_ ?_
    | with_reducible refine FrP_lti ?_
    | with_reducible refine FrP_i ?_)
theorem F8_x4_clear {c : Int32} {s : Sg} (h : Fr 8 c s)  : Fr 8 c (x4_clear s ) := by
  unfold x4_clear
  repeat' (first
    | assumption
    | (intro i s h)
    | (intro v s h)
    | (intro s h)
    | (intro x)
    | (with_reducible refine F8_x4_store ?_ _ _)
    | (with_reducible refine Fr_k ?_ (by decide))
    | (with_reducible refine Fr_0 ?_ (by decide))
    | with_reducible refine Fr_iter' ?_ ?_
    | with_reducible refine Fr_ite ?_ ?_
    | with_reducible refine FrP_ite ?_ ?_
    | with_reducible refine Fr_ltS ?_ ?_
    | with_reducible refine Fr_ltP ?_ ?_
    | with_reducible refine Fr_lti ?_
    | with_reducible refine FrP_ltS ?_ ?_
    | with_reducible refine FrP_ltP ?_ ?_
    | with_reducible refine FrP_lti ?_
    | with_reducible refine FrP_i ?_)
theorem F8_x11_clear {c : Int32} {s : Sg} (h : Fr 8 c s)  : Fr 8 c (x11_clear s ) := by
  unfold x11_clear
  repeat' (first
    | assumption
    | (intro i s h)
    | (intro v s h)
    | (intro s h)
    | (intro x)
    | (with_reducible refine F8_x4_store ?_ _ _)
    | (with_reducible refine F8_x4_clear ?_)
    | (with_reducible refine Fr_k ?_ (by decide))
    | (with_reducible refine Fr_0 ?_ (by decide))
    | with_reducible refine Fr_iter' ?_ ?_
    | with_reducible refine Fr_ite ?_ ?_
    | with_reducible refine FrP_ite ?_ ?_
    | with_reducible refine Fr_ltS ?_ ?_
    | with_reducible refine Fr_ltP ?_ ?_
    | with_reducible refine Fr_lti ?_
    | with_reducible refine FrP_ltS ?_ ?_
    | with_reducible refine FrP_ltP ?_ ?_
    | with_reducible refine FrP_lti ?_
    | with_reducible refine FrP_i ?_)
theorem F8_x5_store {c : Int32} {s : Sg} (h : Fr 8 c s) (x1 x2 : Int32) : Fr 8 c (x5_store s x1 x2) := by
  unfold x5_store
  repeat' (first
    | assumption
    | (intro i s h)
    | (intro v s h)
    | (intro s h)
    | (intro x)
    | (with_reducible refine F8_x4_store ?_ _ _)
    | (with_reducible refine F8_x4_clear ?_)
    | (with_reducible refine F8_x11_clear ?_)
    | (with_reducible refine Fr_k ?_ (by decide))
    | (with_reducible refine Fr_0 ?_ (by decide))
    | with_reducible refine Fr_iter' ?_ ?_
    | with_reducible refine Fr_ite ?_ ?_
    | with_reducible refine FrP_ite ?_ ?_
    | with_reducible refine Fr_ltS ?_ ?_
    | with_reducible refine Fr_ltP ?_ ?_
    | with_reducible refine Fr_lti ?_
    | with_reducible refine FrP_ltS ?_ ?_
    | with_reducible refine FrP_ltP ?_ ?_
    | with_reducible refine FrP_lti ?_
    | with_reducible refine FrP_i ?_)
theorem F8_x5_cycle {c : Int32} {s : Sg} (h : Fr 8 c s)  : Fr 8 c (x5_cycle s ) := by
  unfold x5_cycle
  repeat' (first
    | assumption
    | (intro i s h)
    | (intro v s h)
    | (intro s h)
    | (intro x)
    | (with_reducible refine F8_x4_store ?_ _ _)
    | (with_reducible refine F8_x4_clear ?_)
    | (with_reducible refine F8_x11_clear ?_)
    | (with_reducible refine F8_x5_store ?_ _ _)
    | (with_reducible refine Fr_k ?_ (by decide))
    | (with_reducible refine Fr_0 ?_ (by decide))
    | with_reducible refine Fr_iter' ?_ ?_
    | with_reducible refine Fr_ite ?_ ?_
    | with_reducible refine FrP_ite ?_ ?_
    | with_reducible refine Fr_ltS ?_ ?_
    | with_reducible refine Fr_ltP ?_ ?_
    | with_reducible refine Fr_lti ?_
    | with_reducible refine FrP_ltS ?_ ?_
    | with_reducible refine FrP_ltP ?_ ?_
    | with_reducible refine FrP_lti ?_
    | with_reducible refine FrP_i ?_)
theorem F8_x5_clear {c : Int32} {s : Sg} (h : Fr 8 c s)  : Fr 8 c (x5_clear s ) := by
  unfold x5_clear
  repeat' (first
    | assumption
    | (intro i s h)
    | (intro v s h)
    | (intro s h)
    | (intro x)
    | (with_reducible refine F8_x4_store ?_ _ _)
    | (with_reducible refine F8_x4_clear ?_)
    | (with_reducible refine F8_x11_clear ?_)
    | (with_reducible refine F8_x5_store ?_ _ _)
    | (with_reducible refine F8_x5_cycle ?_)
    | (with_reducible refine Fr_k ?_ (by decide))
    | (with_reducible refine Fr_0 ?_ (by decide))
    | with_reducible refine Fr_iter' ?_ ?_
    | with_reducible refine Fr_ite ?_ ?_
    | with_reducible refine FrP_ite ?_ ?_
    | with_reducible refine Fr_ltS ?_ ?_
    | with_reducible refine Fr_ltP ?_ ?_
    | with_reducible refine Fr_lti ?_
    | with_reducible refine FrP_ltS ?_ ?_
    | with_reducible refine FrP_ltP ?_ ?_
    | with_reducible refine FrP_lti ?_
    | with_reducible refine FrP_i ?_)
theorem F8_x6_load {c : Int32} {s : Sg} (h : Fr 8 c s) (x1 : Int32) : FrP 8 c (x6_load s x1) := by
  unfold x6_load
  repeat' (first
    | assumption
    | (intro i s h)
    | (intro v s h)
    | (intro s h)
    | (intro x)
    | (with_reducible refine F8_x4_store ?_ _ _)
    | (with_reducible refine F8_x4_clear ?_)
    | (with_reducible refine F8_x11_clear ?_)
    | (with_reducible refine F8_x5_store ?_ _ _)
    | (with_reducible refine F8_x5_cycle ?_)
    | (with_reducible refine F8_x5_clear ?_)
    | (with_reducible refine Fr_k ?_ (by decide))
    | (with_reducible refine Fr_0 ?_ (by decide))
    | with_reducible refine Fr_iter' ?_ ?_
    | with_reducible refine Fr_ite ?_ ?_
    | with_reducible refine FrP_ite ?_ ?_
    | with_reducible refine Fr_ltS ?_ ?_
    | with_reducible refine Fr_ltP ?_ ?_
    | with_reducible refine Fr_lti ?_
    | with_reducible refine FrP_ltS ?_ ?_
    | with_reducible refine FrP_ltP ?_ ?_
    | with_reducible refine FrP_lti ?_
    | with_reducible refine FrP_i ?_)
theorem F8_x6_store {c : Int32} {s : Sg} (h : Fr 8 c s) (x1 x2 : Int32) : Fr 8 c (x6_store s x1 x2) := by
  unfold x6_store
  repeat' (first
    | assumption
    | (intro i s h)
    | (intro v s h)
    | (intro s h)
    | (intro x)
    | (with_reducible refine F8_x4_store ?_ _ _)
    | (with_reducible refine F8_x4_clear ?_)
    | (with_reducible refine F8_x11_clear ?_)
    | (with_reducible refine F8_x5_store ?_ _ _)
    | (with_reducible refine F8_x5_cycle ?_)
    | (with_reducible refine F8_x5_clear ?_)
    | (with_reducible refine F8_x6_load ?_ _)
    | (with_reducible refine Fr_k ?_ (by decide))
    | (with_reducible refine Fr_0 ?_ (by decide))
    | with_reducible refine Fr_iter' ?_ ?_
    | with_reducible refine Fr_ite ?_ ?_
    | with_reducible refine FrP_ite ?_ ?_
    | with_reducible refine Fr_ltS ?_ ?_
    | with_reducible refine Fr_ltP ?_ ?_
    | with_reducible refine Fr_lti ?_
    | with_reducible refine FrP_ltS ?_ ?_
    | with_reducible refine FrP_ltP ?_ ?_
    | with_reducible refine FrP_lti ?_
    | with_reducible refine FrP_i ?_)
theorem F8_x6_receive {c : Int32} {s : Sg} (h : Fr 8 c s)  : Fr 8 c (x6_receive s ) := by
  unfold x6_receive
  repeat' (first
    | assumption
    | (intro i s h)
    | (intro v s h)
    | (intro s h)
    | (intro x)
    | (with_reducible refine F8_x4_store ?_ _ _)
    | (with_reducible refine F8_x4_clear ?_)
    | (with_reducible refine F8_x11_clear ?_)
    | (with_reducible refine F8_x5_store ?_ _ _)
    | (with_reducible refine F8_x5_cycle ?_)
    | (with_reducible refine F8_x5_clear ?_)
    | (with_reducible refine F8_x6_load ?_ _)
    | (with_reducible refine F8_x6_store ?_ _ _)
    | (with_reducible refine Fr_k ?_ (by decide))
    | (with_reducible refine Fr_0 ?_ (by decide))
    | with_reducible refine Fr_iter' ?_ ?_
    | with_reducible refine Fr_ite ?_ ?_
    | with_reducible refine FrP_ite ?_ ?_
    | with_reducible refine Fr_ltS ?_ ?_
    | with_reducible refine Fr_ltP ?_ ?_
    | with_reducible refine Fr_lti ?_
    | with_reducible refine FrP_ltS ?_ ?_
    | with_reducible refine FrP_ltP ?_ ?_
    | with_reducible refine FrP_lti ?_
    | with_reducible refine FrP_i ?_)
theorem F8_x6_cycle {c : Int32} {s : Sg} (h : Fr 8 c s)  : Fr 8 c (x6_cycle s ) := by
  unfold x6_cycle
  repeat' (first
    | assumption
    | (intro i s h)
    | (intro v s h)
    | (intro s h)
    | (intro x)
    | (with_reducible refine F8_x4_store ?_ _ _)
    | (with_reducible refine F8_x4_clear ?_)
    | (with_reducible refine F8_x11_clear ?_)
    | (with_reducible refine F8_x5_store ?_ _ _)
    | (with_reducible refine F8_x5_cycle ?_)
    | (with_reducible refine F8_x5_clear ?_)
    | (with_reducible refine F8_x6_load ?_ _)
    | (with_reducible refine F8_x6_store ?_ _ _)
    | (with_reducible refine F8_x6_receive ?_)
    | (with_reducible refine Fr_k ?_ (by decide))
    | (with_reducible refine Fr_0 ?_ (by decide))
    | with_reducible refine Fr_iter' ?_ ?_
    | with_reducible refine Fr_ite ?_ ?_
    | with_reducible refine FrP_ite ?_ ?_
    | with_reducible refine Fr_ltS ?_ ?_
    | with_reducible refine Fr_ltP ?_ ?_
    | with_reducible refine Fr_lti ?_
    | with_reducible refine FrP_ltS ?_ ?_
    | with_reducible refine FrP_ltP ?_ ?_
    | with_reducible refine FrP_lti ?_
    | with_reducible refine FrP_i ?_)
theorem F8_x6_add {c : Int32} {s : Sg} (h : Fr 8 c s) (x1 : Int32) : FrP 8 c (x6_add s x1) := by
  unfold x6_add
  repeat' (first
    | assumption
    | (intro i s h)
    | (intro v s h)
    | (intro s h)
    | (intro x)
    | (with_reducible refine F8_x4_store ?_ _ _)
    | (with_reducible refine F8_x4_clear ?_)
    | (with_reducible refine F8_x11_clear ?_)
    | (with_reducible refine F8_x5_store ?_ _ _)
    | (with_reducible refine F8_x5_cycle ?_)
    | (with_reducible refine F8_x5_clear ?_)
    | (with_reducible refine F8_x6_load ?_ _)
    | (with_reducible refine F8_x6_store ?_ _ _)
    | (with_reducible refine F8_x6_receive ?_)
    | (with_reducible refine F8_x6_cycle ?_)
    | (with_reducible refine Fr_k ?_ (by decide))
    | (with_reducible refine Fr_0 ?_ (by decide))
    | with_reducible refine Fr_iter' ?_ ?_
    | with_reducible refine Fr_ite ?_ ?_
    | with_reducible refine FrP_ite ?_ ?_
    | with_reducible refine Fr_ltS ?_ ?_
    | with_reducible refine Fr_ltP ?_ ?_
    | with_reducible refine Fr_lti ?_
    | with_reducible refine FrP_ltS ?_ ?_
    | with_reducible refine FrP_ltP ?_ ?_
    | with_reducible refine FrP_lti ?_
    | with_reducible refine FrP_i ?_)
theorem F8_x6_clear {c : Int32} {s : Sg} (h : Fr 8 c s)  : Fr 8 c (x6_clear s ) := by
  unfold x6_clear
  repeat' (first
    | assumption
    | (intro i s h)
    | (intro v s h)
    | (intro s h)
    | (intro x)
    | (with_reducible refine F8_x4_store ?_ _ _)
    | (with_reducible refine F8_x4_clear ?_)
    | (with_reducible refine F8_x11_clear ?_)
    | (with_reducible refine F8_x5_store ?_ _ _)
    | (with_reducible refine F8_x5_cycle ?_)
    | (with_reducible refine F8_x5_clear ?_)
    | (with_reducible refine F8_x6_load ?_ _)
    | (with_reducible refine F8_x6_store ?_ _ _)
    | (with_reducible refine F8_x6_receive ?_)
    | (with_reducible refine F8_x6_cycle ?_)
    | (with_reducible refine F8_x6_add ?_ _)
    | (with_reducible refine Fr_k ?_ (by decide))
    | (with_reducible refine Fr_0 ?_ (by decide))
    | with_reducible refine Fr_iter' ?_ ?_
    | with_reducible refine Fr_ite ?_ ?_
    | with_reducible refine FrP_ite ?_ ?_
    | with_reducible refine Fr_ltS ?_ ?_
    | with_reducible refine Fr_ltP ?_ ?_
    | with_reducible refine Fr_lti ?_
    | with_reducible refine FrP_ltS ?_ ?_
    | with_reducible refine FrP_ltP ?_ ?_
    | with_reducible refine FrP_lti ?_
    | with_reducible refine FrP_i ?_)
theorem F8_x7_store {c : Int32} {s : Sg} (h : Fr 8 c s) (x1 x2 : Int32) : Fr 8 c (x7_store s x1 x2) := by
  unfold x7_store
  repeat' (first
    | assumption
    | (intro i s h)
    | (intro v s h)
    | (intro s h)
    | (intro x)
    | (with_reducible refine F8_x4_store ?_ _ _)
    | (with_reducible refine F8_x4_clear ?_)
    | (with_reducible refine F8_x11_clear ?_)
    | (with_reducible refine F8_x5_store ?_ _ _)
    | (with_reducible refine F8_x5_cycle ?_)
    | (with_reducible refine F8_x5_clear ?_)
    | (with_reducible refine F8_x6_load ?_ _)
    | (with_reducible refine F8_x6_store ?_ _ _)
    | (with_reducible refine F8_x6_receive ?_)
    | (with_reducible refine F8_x6_cycle ?_)
    | (with_reducible refine F8_x6_add ?_ _)
    | (with_reducible refine F8_x6_clear ?_)
    | (with_reducible refine Fr_k ?_ (by decide))
    | (with_reducible refine Fr_0 ?_ (by decide))
    | with_reducible refine Fr_iter' ?_ ?_
    | with_reducible refine Fr_ite ?_ ?_
    | with_reducible refine FrP_ite ?_ ?_
    | with_reducible refine Fr_ltS ?_ ?_
    | with_reducible refine Fr_ltP ?_ ?_
    | with_reducible refine Fr_lti ?_
    | with_reducible refine FrP_ltS ?_ ?_
    | with_reducible refine FrP_ltP ?_ ?_
    | with_reducible refine FrP_lti ?_
    | with_reducible refine FrP_i ?_)
theorem F8_x7_cycle {c : Int32} {s : Sg} (h : Fr 8 c s)  : Fr 8 c (x7_cycle s ) := by
  unfold x7_cycle
  repeat' (first
    | assumption
    | (intro i s h)
    | (intro v s h)
    | (intro s h)
    | (intro x)
    | (with_reducible refine F8_x4_store ?_ _ _)
    | (with_reducible refine F8_x4_clear ?_)
    | (with_reducible refine F8_x11_clear ?_)
    | (with_reducible refine F8_x5_store ?_ _ _)
    | (with_reducible refine F8_x5_cycle ?_)
    | (with_reducible refine F8_x5_clear ?_)
    | (with_reducible refine F8_x6_load ?_ _)
    | (with_reducible refine F8_x6_store ?_ _ _)
    | (with_reducible refine F8_x6_receive ?_)
    | (with_reducible refine F8_x6_cycle ?_)
    | (with_reducible refine F8_x6_add ?_ _)
    | (with_reducible refine F8_x6_clear ?_)
    | (with_reducible refine F8_x7_store ?_ _ _)
    | (with_reducible refine Fr_k ?_ (by decide))
    | (with_reducible refine Fr_0 ?_ (by decide))
    | with_reducible refine Fr_iter' ?_ ?_
    | with_reducible refine Fr_ite ?_ ?_
    | with_reducible refine FrP_ite ?_ ?_
    | with_reducible refine Fr_ltS ?_ ?_
    | with_reducible refine Fr_ltP ?_ ?_
    | with_reducible refine Fr_lti ?_
    | with_reducible refine FrP_ltS ?_ ?_
    | with_reducible refine FrP_ltP ?_ ?_
    | with_reducible refine FrP_lti ?_
    | with_reducible refine FrP_i ?_)
theorem F8_x7_clear {c : Int32} {s : Sg} (h : Fr 8 c s)  : Fr 8 c (x7_clear s ) := by
  unfold x7_clear
  repeat' (first
    | assumption
    | (intro i s h)
    | (intro v s h)
    | (intro s h)
    | (intro x)
    | (with_reducible refine F8_x4_store ?_ _ _)
    | (with_reducible refine F8_x4_clear ?_)
    | (with_reducible refine F8_x11_clear ?_)
    | (with_reducible refine F8_x5_store ?_ _ _)
    | (with_reducible refine F8_x5_cycle ?_)
    | (with_reducible refine F8_x5_clear ?_)
    | (with_reducible refine F8_x6_load ?_ _)
    | (with_reducible refine F8_x6_store ?_ _ _)
    | (with_reducible refine F8_x6_receive ?_)
    | (with_reducible refine F8_x6_cycle ?_)
    | (with_reducible refine F8_x6_add ?_ _)
    | (with_reducible refine F8_x6_clear ?_)
    | (with_reducible refine F8_x7_store ?_ _ _)
    | (with_reducible refine F8_x7_cycle ?_)
    | (with_reducible refine Fr_k ?_ (by decide))
    | (with_reducible refine Fr_0 ?_ (by decide))
    | with_reducible refine Fr_iter' ?_ ?_
    | with_reducible refine Fr_ite ?_ ?_
    | with_reducible refine FrP_ite ?_ ?_
    | with_reducible refine Fr_ltS ?_ ?_
    | with_reducible refine Fr_ltP ?_ ?_
    | with_reducible refine Fr_lti ?_
    | with_reducible refine FrP_ltS ?_ ?_
    | with_reducible refine FrP_ltP ?_ ?_
    | with_reducible refine FrP_lti ?_
    | with_reducible refine FrP_i ?_)
theorem F8_x8_store {c : Int32} {s : Sg} (h : Fr 8 c s) (x1 x2 : Int32) : Fr 8 c (x8_store s x1 x2) := by
  unfold x8_store
  repeat' (first
    | assumption
    | (intro i s h)
    | (intro v s h)
    | (intro s h)
    | (intro x)
    | (with_reducible refine F8_x4_store ?_ _ _)
    | (with_reducible refine F8_x4_clear ?_)
    | (with_reducible refine F8_x11_clear ?_)
    | (with_reducible refine F8_x5_store ?_ _ _)
    | (with_reducible refine F8_x5_cycle ?_)
    | (with_reducible refine F8_x5_clear ?_)
    | (with_reducible refine F8_x6_load ?_ _)
    | (with_reducible refine F8_x6_store ?_ _ _)
    | (with_reducible refine F8_x6_receive ?_)
    | (with_reducible refine F8_x6_cycle ?_)
    | (with_reducible refine F8_x6_add ?_ _)
    | (with_reducible refine F8_x6_clear ?_)
    | (with_reducible refine F8_x7_store ?_ _ _)
    | (with_reducible refine F8_x7_cycle ?_)
    | (with_reducible refine F8_x7_clear ?_)
    | (with_reducible refine Fr_k ?_ (by decide))
    | (with_reducible refine Fr_0 ?_ (by decide))
    | with_reducible refine Fr_iter' ?_ ?_
    | with_reducible refine Fr_ite ?_ ?_
    | with_reducible refine FrP_ite ?_ ?_
    | with_reducible refine Fr_ltS ?_ ?_
    | with_reducible refine Fr_ltP ?_ ?_
    | with_reducible refine Fr_lti ?_
    | with_reducible refine FrP_ltS ?_ ?_
    | with_reducible refine FrP_ltP ?_ ?_
    | with_reducible refine FrP_lti ?_
    | with_reducible refine FrP_i ?_)
theorem F8_x8_shorter {c : Int32} {s : Sg} (h : Fr 8 c s)  : Fr 8 c (x8_shorter s ) := by
  unfold x8_shorter
  repeat' (first
    | assumption
    | (intro i s h)
    | (intro v s h)
    | (intro s h)
    | (intro x)
    | (with_reducible refine F8_x4_store ?_ _ _)
    | (with_reducible refine F8_x4_clear ?_)
    | (with_reducible refine F8_x11_clear ?_)
    | (with_reducible refine F8_x5_store ?_ _ _)
    | (with_reducible refine F8_x5_cycle ?_)
    | (with_reducible refine F8_x5_clear ?_)
    | (with_reducible refine F8_x6_load ?_ _)
    | (with_reducible refine F8_x6_store ?_ _ _)
    | (with_reducible refine F8_x6_receive ?_)
    | (with_reducible refine F8_x6_cycle ?_)
    | (with_reducible refine F8_x6_add ?_ _)
    | (with_reducible refine F8_x6_clear ?_)
    | (with_reducible refine F8_x7_store ?_ _ _)
    | (with_reducible refine F8_x7_cycle ?_)
    | (with_reducible refine F8_x7_clear ?_)
    | (with_reducible refine F8_x8_store ?_ _ _)
    | (with_reducible refine Fr_k ?_ (by decide))
    | (with_reducible refine Fr_0 ?_ (by decide))
    | with_reducible refine Fr_iter' ?_ ?_
    | with_reducible refine Fr_ite ?_ ?_
    | with_reducible refine FrP_ite ?_ ?_
    | with_reducible refine Fr_ltS ?_ ?_
    | with_reducible refine Fr_ltP ?_ ?_
    | with_reducible refine Fr_lti ?_
    | with_reducible refine FrP_ltS ?_ ?_
    | with_reducible refine FrP_ltP ?_ ?_
    | with_reducible refine FrP_lti ?_
    | with_reducible refine FrP_i ?_)
theorem F8_x8_cycle {c : Int32} {s : Sg} (h : Fr 8 c s)  : Fr 8 c (x8_cycle s ) := by
  unfold x8_cycle
  repeat' (first
    | assumption
    | (intro i s h)
    | (intro v s h)
    | (intro s h)
    | (intro x)
    | (with_reducible refine F8_x4_store ?_ _ _)
    | (with_reducible refine F8_x4_clear ?_)
    | (with_reducible refine F8_x11_clear ?_)
    | (with_reducible refine F8_x5_store ?_ _ _)
    | (with_reducible refine F8_x5_cycle ?_)
    | (with_reducible refine F8_x5_clear ?_)
    | (with_reducible refine F8_x6_load ?_ _)
    | (with_reducible refine F8_x6_store ?_ _ _)
    | (with_reducible refine F8_x6_receive ?_)
    | (with_reducible refine F8_x6_cycle ?_)
    | (with_reducible refine F8_x6_add ?_ _)
    | (with_reducible refine F8_x6_clear ?_)
    | (with_reducible refine F8_x7_store ?_ _ _)
    | (with_reducible refine F8_x7_cycle ?_)
    | (with_reducible refine F8_x7_clear ?_)
    | (with_reducible refine F8_x8_store ?_ _ _)
    | (with_reducible refine F8_x8_shorter ?_)
    | (with_reducible refine Fr_k ?_ (by decide))
    | (with_reducible refine Fr_0 ?_ (by decide))
    | with_reducible refine Fr_iter' ?_ ?_
    | with_reducible refine Fr_ite ?_ ?_
    | with_reducible refine FrP_ite ?_ ?_
    | with_reducible refine Fr_ltS ?_ ?_
    | with_reducible refine Fr_ltP ?_ ?_
    | with_reducible refine Fr_lti ?_
    | with_reducible refine FrP_ltS ?_ ?_
    | with_reducible refine FrP_ltP ?_ ?_
    | with_reducible refine FrP_lti ?_
    | with_reducible refine FrP_i ?_)
theorem F8_x8_clear {c : Int32} {s : Sg} (h : Fr 8 c s)  : Fr 8 c (x8_clear s ) := by
  unfold x8_clear
  repeat' (first
    | assumption
    | (intro i s h)
    | (intro v s h)
    | (intro s h)
    | (intro x)
    | (with_reducible refine F8_x4_store ?_ _ _)
    | (with_reducible refine F8_x4_clear ?_)
    | (with_reducible refine F8_x11_clear ?_)
    | (with_reducible refine F8_x5_store ?_ _ _)
    | (with_reducible refine F8_x5_cycle ?_)
    | (with_reducible refine F8_x5_clear ?_)
    | (with_reducible refine F8_x6_load ?_ _)
    | (with_reducible refine F8_x6_store ?_ _ _)
    | (with_reducible refine F8_x6_receive ?_)
    | (with_reducible refine F8_x6_cycle ?_)
    | (with_reducible refine F8_x6_add ?_ _)
    | (with_reducible refine F8_x6_clear ?_)
    | (with_reducible refine F8_x7_store ?_ _ _)
    | (with_reducible refine F8_x7_cycle ?_)
    | (with_reducible refine F8_x7_clear ?_)
    | (with_reducible refine F8_x8_store ?_ _ _)
    | (with_reducible refine F8_x8_shorter ?_)
    | (with_reducible refine F8_x8_cycle ?_)
    | (with_reducible refine Fr_k ?_ (by decide))
    | (with_reducible refine Fr_0 ?_ (by decide))
    | with_reducible refine Fr_iter' ?_ ?_
    | with_reducible refine Fr_ite ?_ ?_
    | with_reducible refine FrP_ite ?_ ?_
    | with_reducible refine Fr_ltS ?_ ?_
    | with_reducible refine Fr_ltP ?_ ?_
    | with_reducible refine Fr_lti ?_
    | with_reducible refine FrP_ltS ?_ ?_
    | with_reducible refine FrP_ltP ?_ ?_
    | with_reducible refine FrP_lti ?_
    | with_reducible refine FrP_i ?_)
theorem F8_x9_store {c : Int32} {s : Sg} (h : Fr 8 c s) (x1 x2 : Int32) : Fr 8 c (x9_store s x1 x2) := by
  unfold x9_store
  repeat' (first
    | assumption
    | (intro i s h)
    | (intro v s h)
    | (intro s h)
    | (intro x)
    | (with_reducible refine F8_x4_store ?_ _ _)
    | (with_reducible refine F8_x4_clear ?_)
    | (with_reducible refine F8_x11_clear ?_)
    | (with_reducible refine F8_x5_store ?_ _ _)
    | (with_reducible refine F8_x5_cycle ?_)
    | (with_reducible refine F8_x5_clear ?_)
    | (with_reducible refine F8_x6_load ?_ _)
    | (with_reducible refine F8_x6_store ?_ _ _)
    | (with_reducible refine F8_x6_receive ?_)
    | (with_reducible refine F8_x6_cycle ?_)
    | (with_reducible refine F8_x6_add ?_ _)
    | (with_reducible refine F8_x6_clear ?_)
    | (with_reducible refine F8_x7_store ?_ _ _)
    | (with_reducible refine F8_x7_cycle ?_)
    | (with_reducible refine F8_x7_clear ?_)
    | (with_reducible refine F8_x8_store ?_ _ _)
    | (with_reducible refine F8_x8_shorter ?_)
    | (with_reducible refine F8_x8_cycle ?_)
    | (with_reducible refine F8_x8_clear ?_)
    | (with_reducible refine Fr_k ?_ (by decide))
    | (with_reducible refine Fr_0 ?_ (by decide))
    | with_reducible refine Fr_iter' ?_ ?_
    | with_reducible refine Fr_ite ?_ ?_
    | with_reducible refine FrP_ite ?_ ?_
    | with_reducible refine Fr_ltS ?_ ?_
    | with_reducible refine Fr_ltP ?_ ?_
    | with_reducible refine Fr_lti ?_
    | with_reducible refine FrP_ltS ?_ ?_
    | with_reducible refine FrP_ltP ?_ ?_
    | with_reducible refine FrP_lti ?_
    | with_reducible refine FrP_i ?_)
theorem F8_x9_cycle {c : Int32} {s : Sg} (h : Fr 8 c s)  : Fr 8 c (x9_cycle s ) := by
  unfold x9_cycle
  repeat' (first
    | assumption
    | (intro i s h)
    | (intro v s h)
    | (intro s h)
    | (intro x)
    | (with_reducible refine F8_x4_store ?_ _ _)
    | (with_reducible refine F8_x4_clear ?_)
    | (with_reducible refine F8_x11_clear ?_)
    | (with_reducible refine F8_x5_store ?_ _ _)
    | (with_reducible refine F8_x5_cycle ?_)
    | (with_reducible refine F8_x5_clear ?_)
    | (with_reducible refine F8_x6_load ?_ _)
    | (with_reducible refine F8_x6_store ?_ _ _)
    | (with_reducible refine F8_x6_receive ?_)
    | (with_reducible refine F8_x6_cycle ?_)
    | (with_reducible refine F8_x6_add ?_ _)
    | (with_reducible refine F8_x6_clear ?_)
    | (with_reducible refine F8_x7_store ?_ _ _)
    | (with_reducible refine F8_x7_cycle ?_)
    | (with_reducible refine F8_x7_clear ?_)
    | (with_reducible refine F8_x8_store ?_ _ _)
    | (with_reducible refine F8_x8_shorter ?_)
    | (with_reducible refine F8_x8_cycle ?_)
    | (with_reducible refine F8_x8_clear ?_)
    | (with_reducible refine F8_x9_store ?_ _ _)
    | (with_reducible refine Fr_k ?_ (by decide))
    | (with_reducible refine Fr_0 ?_ (by decide))
    | with_reducible refine Fr_iter' ?_ ?_
    | with_reducible refine Fr_ite ?_ ?_
    | with_reducible refine FrP_ite ?_ ?_
    | with_reducible refine Fr_ltS ?_ ?_
    | with_reducible refine Fr_ltP ?_ ?_
    | with_reducible refine Fr_lti ?_
    | with_reducible refine FrP_ltS ?_ ?_
    | with_reducible refine FrP_ltP ?_ ?_
    | with_reducible refine FrP_lti ?_
    | with_reducible refine FrP_i ?_)
theorem F8_x9_clear {c : Int32} {s : Sg} (h : Fr 8 c s)  : Fr 8 c (x9_clear s ) := by
  unfold x9_clear
  repeat' (first
    | assumption
    | (intro i s h)
    | (intro v s h)
    | (intro s h)
    | (intro x)
    | (with_reducible refine F8_x4_store ?_ _ _)
    | (with_reducible refine F8_x4_clear ?_)
    | (with_reducible refine F8_x11_clear ?_)
    | (with_reducible refine F8_x5_store ?_ _ _)
    | (with_reducible refine F8_x5_cycle ?_)
    | (with_reducible refine F8_x5_clear ?_)
    | (with_reducible refine F8_x6_load ?_ _)
    | (with_reducible refine F8_x6_store ?_ _ _)
    | (with_reducible refine F8_x6_receive ?_)
    | (with_reducible refine F8_x6_cycle ?_)
    | (with_reducible refine F8_x6_add ?_ _)
    | (with_reducible refine F8_x6_clear ?_)
    | (with_reducible refine F8_x7_store ?_ _ _)
    | (with_reducible refine F8_x7_cycle ?_)
    | (with_reducible refine F8_x7_clear ?_)
    | (with_reducible refine F8_x8_store ?_ _ _)
    | (with_reducible refine F8_x8_shorter ?_)
    | (with_reducible refine F8_x8_cycle ?_)
    | (with_reducible refine F8_x8_clear ?_)
    | (with_reducible refine F8_x9_store ?_ _ _)
    | (with_reducible refine F8_x9_cycle ?_)
    | (with_reducible refine Fr_k ?_ (by decide))
    | (with_reducible refine Fr_0 ?_ (by decide))
    | with_reducible refine Fr_iter' ?_ ?_
    | with_reducible refine Fr_ite ?_ ?_
    | with_reducible refine FrP_ite ?_ ?_
    | with_reducible refine Fr_ltS ?_ ?_
    | with_reducible refine Fr_ltP ?_ ?_
    | with_reducible refine Fr_lti ?_
    | with_reducible refine FrP_ltS ?_ ?_
    | with_reducible refine FrP_ltP ?_ ?_
    | with_reducible refine FrP_lti ?_
    | with_reducible refine FrP_i ?_)
theorem F8_x3_store {c : Int32} {s : Sg} (h : Fr 8 c s) (x1 x2 : Int32) : Fr 8 c (x3_store s x1 x2) := by
  unfold x3_store
  repeat' (first
    | assumption
    | (intro i s h)
    | (intro v s h)
    | (intro s h)
    | (intro x)
    | (with_reducible refine F8_x4_store ?_ _ _)
    | (with_reducible refine F8_x4_clear ?_)
    | (with_reducible refine F8_x11_clear ?_)
    | (with_reducible refine F8_x5_store ?_ _ _)
    | (with_reducible refine F8_x5_cycle ?_)
    | (with_reducible refine F8_x5_clear ?_)
    | (with_reducible refine F8_x6_load ?_ _)
    | (with_reducible refine F8_x6_store ?_ _ _)
    | (with_reducible refine F8_x6_receive ?_)
    | (with_reducible refine F8_x6_cycle ?_)
    | (with_reducible refine F8_x6_add ?_ _)
    | (with_reducible refine F8_x6_clear ?_)
    | (with_reducible refine F8_x7_store ?_ _ _)
    | (with_reducible refine F8_x7_cycle ?_)
    | (with_reducible refine F8_x7_clear ?_)
    | (with_reducible refine F8_x8_store ?_ _ _)
    | (with_reducible refine F8_x8_shorter ?_)
    | (with_reducible refine F8_x8_cycle ?_)
    | (with_reducible refine F8_x8_clear ?_)
    | (with_reducible refine F8_x9_store ?_ _ _)
    | (with_reducible refine F8_x9_cycle ?_)
    | (with_reducible refine F8_x9_clear ?_)
    | (with_reducible refine Fr_k ?_ (by decide))
    | (with_reducible refine Fr_0 ?_ (by decide))
    | with_reducible refine Fr_iter' ?_ ?_
    | with_reducible refine Fr_ite ?_ ?_
    | with_reducible refine FrP_ite ?_ ?_
    | with_reducible refine Fr_ltS ?_ ?_
    | with_reducible refine Fr_ltP ?_ ?_
    | with_reducible refine Fr_lti ?_
    | with_reducible refine FrP_ltS ?_ ?_
    | with_reducible refine FrP_ltP ?_ ?_
    | with_reducible refine FrP_lti ?_
    | with_reducible refine FrP_i ?_)
theorem F8_x10_empty {c : Int32} {s : Sg} (h : Fr 8 c s)  : Fr 8 c (x10_empty s ) := by
  unfold x10_empty
  repeat' (first
    | assumption
    | (intro i s h)
    | (intro v s h)
    | (intro s h)
    | (intro x)
    | (with_reducible refine F8_x4_store ?_ _ _)
    | (with_reducible refine F8_x4_clear ?_)
    | (with_reducible refine F8_x11_clear ?_)
    | (with_reducible refine F8_x5_store ?_ _ _)
    | (with_reducible refine F8_x5_cycle ?_)
    | (with_reducible refine F8_x5_clear ?_)
    | (with_reducible refine F8_x6_load ?_ _)
    | (with_reducible refine F8_x6_store ?_ _ _)
    | (with_reducible refine F8_x6_receive ?_)
    | (with_reducible refine F8_x6_cycle ?_)
    | (with_reducible refine F8_x6_add ?_ _)
    | (with_reducible refine F8_x6_clear ?_)
    | (with_reducible refine F8_x7_store ?_ _ _)
    | (with_reducible refine F8_x7_cycle ?_)
    | (with_reducible refine F8_x7_clear ?_)
    | (with_reducible refine F8_x8_store ?_ _ _)
    | (with_reducible refine F8_x8_shorter ?_)
    | (with_reducible refine F8_x8_cycle ?_)
    | (with_reducible refine F8_x8_clear ?_)
    | (with_reducible refine F8_x9_store ?_ _ _)
    | (with_reducible refine F8_x9_cycle ?_)
    | (with_reducible refine F8_x9_clear ?_)
    | (with_reducible refine F8_x3_store ?_ _ _)
    | (with_reducible refine Fr_k ?_ (by decide))
    | (with_reducible refine Fr_0 ?_ (by decide))
    | with_reducible refine Fr_iter' ?_ ?_
    | with_reducible refine Fr_ite ?_ ?_
    | with_reducible refine FrP_ite ?_ ?_
    | with_reducible refine Fr_ltS ?_ ?_
    | with_reducible refine Fr_ltP ?_ ?_
    | with_reducible refine Fr_lti ?_
    | with_reducible refine FrP_ltS ?_ ?_
    | with_reducible refine FrP_ltP ?_ ?_
    | with_reducible refine FrP_lti ?_
    | with_reducible refine FrP_i ?_)
theorem F8_x10_store {c : Int32} {s : Sg} (h : Fr 8 c s) (x1 x2 : Int32) : Fr 8 c (x10_store s x1 x2) := by
  unfold x10_store
  repeat' (first
    | assumption
    | (intro i s h)
    | (intro v s h)
    | (intro s h)
    | (intro x)
    | (with_reducible refine F8_x4_store ?_ _ _)
    | (with_reducible refine F8_x4_clear ?_)
    | (with_reducible refine F8_x11_clear ?_)
    | (with_reducible refine F8_x5_store ?_ _ _)
    | (with_reducible refine F8_x5_cycle ?_)
    | (with_reducible refine F8_x5_clear ?_)
    | (with_reducible refine F8_x6_load ?_ _)
    | (with_reducible refine F8_x6_store ?_ _ _)
    | (with_reducible refine F8_x6_receive ?_)
    | (with_reducible refine F8_x6_cycle ?_)
    | (with_reducible refine F8_x6_add ?_ _)
    | (with_reducible refine F8_x6_clear ?_)
    | (with_reducible refine F8_x7_store ?_ _ _)
    | (with_reducible refine F8_x7_cycle ?_)
    | (with_reducible refine F8_x7_clear ?_)
    | (with_reducible refine F8_x8_store ?_ _ _)
    | (with_reducible refine F8_x8_shorter ?_)
    | (with_reducible refine F8_x8_cycle ?_)
    | (with_reducible refine F8_x8_clear ?_)
    | (with_reducible refine F8_x9_store ?_ _ _)
    | (with_reducible refine F8_x9_cycle ?_)
    | (with_reducible refine F8_x9_clear ?_)
    | (with_reducible refine F8_x3_store ?_ _ _)
    | (with_reducible refine F8_x10_empty ?_)
    | (with_reducible refine Fr_k ?_ (by decide))
    | (with_reducible refine Fr_0 ?_ (by decide))
    | with_reducible refine Fr_iter' ?_ ?_
    | with_reducible refine Fr_ite ?_ ?_
    | with_reducible refine FrP_ite ?_ ?_
    | with_reducible refine Fr_ltS ?_ ?_
    | with_reducible refine Fr_ltP ?_ ?_
    | with_reducible refine Fr_lti ?_
    | with_reducible refine FrP_ltS ?_ ?_
    | with_reducible refine FrP_ltP ?_ ?_
    | with_reducible refine FrP_lti ?_
    | with_reducible refine FrP_i ?_)
theorem F8_x10_done {c : Int32} {s : Sg} (h : Fr 8 c s)  : Fr 8 c (x10_done s ) := by
  unfold x10_done
  repeat' (first
    | assumption
    | (intro i s h)
    | (intro v s h)
    | (intro s h)
    | (intro x)
    | (with_reducible refine F8_x4_store ?_ _ _)
    | (with_reducible refine F8_x4_clear ?_)
    | (with_reducible refine F8_x11_clear ?_)
    | (with_reducible refine F8_x5_store ?_ _ _)
    | (with_reducible refine F8_x5_cycle ?_)
    | (with_reducible refine F8_x5_clear ?_)
    | (with_reducible refine F8_x6_load ?_ _)
    | (with_reducible refine F8_x6_store ?_ _ _)
    | (with_reducible refine F8_x6_receive ?_)
    | (with_reducible refine F8_x6_cycle ?_)
    | (with_reducible refine F8_x6_add ?_ _)
    | (with_reducible refine F8_x6_clear ?_)
    | (with_reducible refine F8_x7_store ?_ _ _)
    | (with_reducible refine F8_x7_cycle ?_)
    | (with_reducible refine F8_x7_clear ?_)
    | (with_reducible refine F8_x8_store ?_ _ _)
    | (with_reducible refine F8_x8_shorter ?_)
    | (with_reducible refine F8_x8_cycle ?_)
    | (with_reducible refine F8_x8_clear ?_)
    | (with_reducible refine F8_x9_store ?_ _ _)
    | (with_reducible refine F8_x9_cycle ?_)
    | (with_reducible refine F8_x9_clear ?_)
    | (with_reducible refine F8_x3_store ?_ _ _)
    | (with_reducible refine F8_x10_empty ?_)
    | (with_reducible refine F8_x10_store ?_ _ _)
    | (with_reducible refine Fr_k ?_ (by decide))
    | (with_reducible refine Fr_0 ?_ (by decide))
    | with_reducible refine Fr_iter' ?_ ?_
    | with_reducible refine Fr_ite ?_ ?_
    | with_reducible refine FrP_ite ?_ ?_
    | with_reducible refine Fr_ltS ?_ ?_
    | with_reducible refine Fr_ltP ?_ ?_
    | with_reducible refine Fr_lti ?_
    | with_reducible refine FrP_ltS ?_ ?_
    | with_reducible refine FrP_ltP ?_ ?_
    | with_reducible refine FrP_lti ?_
    | with_reducible refine FrP_i ?_)
theorem F8_x10_cycle {c : Int32} {s : Sg} (h : Fr 8 c s)  : Fr 8 c (x10_cycle s ) := by
  unfold x10_cycle
  repeat' (first
    | assumption
    | (intro i s h)
    | (intro v s h)
    | (intro s h)
    | (intro x)
    | (with_reducible refine F8_x4_store ?_ _ _)
    | (with_reducible refine F8_x4_clear ?_)
    | (with_reducible refine F8_x11_clear ?_)
    | (with_reducible refine F8_x5_store ?_ _ _)
    | (with_reducible refine F8_x5_cycle ?_)
    | (with_reducible refine F8_x5_clear ?_)
    | (with_reducible refine F8_x6_load ?_ _)
    | (with_reducible refine F8_x6_store ?_ _ _)
    | (with_reducible refine F8_x6_receive ?_)
    | (with_reducible refine F8_x6_cycle ?_)
    | (with_reducible refine F8_x6_add ?_ _)
    | (with_reducible refine F8_x6_clear ?_)
    | (with_reducible refine F8_x7_store ?_ _ _)
    | (with_reducible refine F8_x7_cycle ?_)
    | (with_reducible refine F8_x7_clear ?_)
    | (with_reducible refine F8_x8_store ?_ _ _)
    | (with_reducible refine F8_x8_shorter ?_)
    | (with_reducible refine F8_x8_cycle ?_)
    | (with_reducible refine F8_x8_clear ?_)
    | (with_reducible refine F8_x9_store ?_ _ _)
    | (with_reducible refine F8_x9_cycle ?_)
    | (with_reducible refine F8_x9_clear ?_)
    | (with_reducible refine F8_x3_store ?_ _ _)
    | (with_reducible refine F8_x10_empty ?_)
    | (with_reducible refine F8_x10_store ?_ _ _)
    | (with_reducible refine F8_x10_done ?_)
    | (with_reducible refine Fr_k ?_ (by decide))
    | (with_reducible refine Fr_0 ?_ (by decide))
    | with_reducible refine Fr_iter' ?_ ?_
    | with_reducible refine Fr_ite ?_ ?_
    | with_reducible refine FrP_ite ?_ ?_
    | with_reducible refine Fr_ltS ?_ ?_
    | with_reducible refine Fr_ltP ?_ ?_
    | with_reducible refine Fr_lti ?_
    | with_reducible refine FrP_ltS ?_ ?_
    | with_reducible refine FrP_ltP ?_ ?_
    | with_reducible refine FrP_lti ?_
    | with_reducible refine FrP_i ?_)
theorem F8_x10_read {c : Int32} {s : Sg} (h : Fr 8 c s) (x1 x2 : Int32) : FrP 8 c (x10_read s x1 x2) := by
  unfold x10_read
  repeat' (first
    | assumption
    | (intro i s h)
    | (intro v s h)
    | (intro s h)
    | (intro x)
    | (with_reducible refine F8_x4_store ?_ _ _)
    | (with_reducible refine F8_x4_clear ?_)
    | (with_reducible refine F8_x11_clear ?_)
    | (with_reducible refine F8_x5_store ?_ _ _)
    | (with_reducible refine F8_x5_cycle ?_)
    | (with_reducible refine F8_x5_clear ?_)
    | (with_reducible refine F8_x6_load ?_ _)
    | (with_reducible refine F8_x6_store ?_ _ _)
    | (with_reducible refine F8_x6_receive ?_)
    | (with_reducible refine F8_x6_cycle ?_)
    | (with_reducible refine F8_x6_add ?_ _)
    | (with_reducible refine F8_x6_clear ?_)
    | (with_reducible refine F8_x7_store ?_ _ _)
    | (with_reducible refine F8_x7_cycle ?_)
    | (with_reducible refine F8_x7_clear ?_)
    | (with_reducible refine F8_x8_store ?_ _ _)
    | (with_reducible refine F8_x8_shorter ?_)
    | (with_reducible refine F8_x8_cycle ?_)
    | (with_reducible refine F8_x8_clear ?_)
    | (with_reducible refine F8_x9_store ?_ _ _)
    | (with_reducible refine F8_x9_cycle ?_)
    | (with_reducible refine F8_x9_clear ?_)
    | (with_reducible refine F8_x3_store ?_ _ _)
    | (with_reducible refine F8_x10_empty ?_)
    | (with_reducible refine F8_x10_store ?_ _ _)
    | (with_reducible refine F8_x10_done ?_)
    | (with_reducible refine F8_x10_cycle ?_)
    | (with_reducible refine Fr_k ?_ (by decide))
    | (with_reducible refine Fr_0 ?_ (by decide))
    | with_reducible refine Fr_iter' ?_ ?_
    | with_reducible refine Fr_ite ?_ ?_
    | with_reducible refine FrP_ite ?_ ?_
    | with_reducible refine Fr_ltS ?_ ?_
    | with_reducible refine Fr_ltP ?_ ?_
    | with_reducible refine Fr_lti ?_
    | with_reducible refine FrP_ltS ?_ ?_
    | with_reducible refine FrP_ltP ?_ ?_
    | with_reducible refine FrP_lti ?_
    | with_reducible refine FrP_i ?_)
theorem F8_x10_page {c : Int32} {s : Sg} (h : Fr 8 c s) (x1 x2 : Int32) : Fr 8 c (x10_page s x1 x2) := by
  unfold x10_page
  repeat' (first
    | assumption
    | (intro i s h)
    | (intro v s h)
    | (intro s h)
    | (intro x)
    | (with_reducible refine F8_x4_store ?_ _ _)
    | (with_reducible refine F8_x4_clear ?_)
    | (with_reducible refine F8_x11_clear ?_)
    | (with_reducible refine F8_x5_store ?_ _ _)
    | (with_reducible refine F8_x5_cycle ?_)
    | (with_reducible refine F8_x5_clear ?_)
    | (with_reducible refine F8_x6_load ?_ _)
    | (with_reducible refine F8_x6_store ?_ _ _)
    | (with_reducible refine F8_x6_receive ?_)
    | (with_reducible refine F8_x6_cycle ?_)
    | (with_reducible refine F8_x6_add ?_ _)
    | (with_reducible refine F8_x6_clear ?_)
    | (with_reducible refine F8_x7_store ?_ _ _)
    | (with_reducible refine F8_x7_cycle ?_)
    | (with_reducible refine F8_x7_clear ?_)
    | (with_reducible refine F8_x8_store ?_ _ _)
    | (with_reducible refine F8_x8_shorter ?_)
    | (with_reducible refine F8_x8_cycle ?_)
    | (with_reducible refine F8_x8_clear ?_)
    | (with_reducible refine F8_x9_store ?_ _ _)
    | (with_reducible refine F8_x9_cycle ?_)
    | (with_reducible refine F8_x9_clear ?_)
    | (with_reducible refine F8_x3_store ?_ _ _)
    | (with_reducible refine F8_x10_empty ?_)
    | (with_reducible refine F8_x10_store ?_ _ _)
    | (with_reducible refine F8_x10_done ?_)
    | (with_reducible refine F8_x10_cycle ?_)
    | (with_reducible refine F8_x10_read ?_ _ _)
    | (with_reducible refine Fr_k ?_ (by decide))
    | (with_reducible refine Fr_0 ?_ (by decide))
    | with_reducible refine Fr_iter' ?_ ?_
    | with_reducible refine Fr_ite ?_ ?_
    | with_reducible refine FrP_ite ?_ ?_
    | with_reducible refine Fr_ltS ?_ ?_
    | with_reducible refine Fr_ltP ?_ ?_
    | with_reducible refine Fr_lti ?_
    | with_reducible refine FrP_ltS ?_ ?_
    | with_reducible refine FrP_ltP ?_ ?_
    | with_reducible refine FrP_lti ?_
    | with_reducible refine FrP_i ?_)
theorem F8_x10_stores {c : Int32} {s : Sg} (h : Fr 8 c s) (x1 x2 : Int32) : Fr 8 c (x10_stores s x1 x2) := by
  unfold x10_stores
  repeat' (first
    | assumption
    | (intro i s h)
    | (intro v s h)
    | (intro s h)
    | (intro x)
    | (with_reducible refine F8_x4_store ?_ _ _)
    | (with_reducible refine F8_x4_clear ?_)
    | (with_reducible refine F8_x11_clear ?_)
    | (with_reducible refine F8_x5_store ?_ _ _)
    | (with_reducible refine F8_x5_cycle ?_)
    | (with_reducible refine F8_x5_clear ?_)
    | (with_reducible refine F8_x6_load ?_ _)
    | (with_reducible refine F8_x6_store ?_ _ _)
    | (with_reducible refine F8_x6_receive ?_)
    | (with_reducible refine F8_x6_cycle ?_)
    | (with_reducible refine F8_x6_add ?_ _)
    | (with_reducible refine F8_x6_clear ?_)
    | (with_reducible refine F8_x7_store ?_ _ _)
    | (with_reducible refine F8_x7_cycle ?_)
    | (with_reducible refine F8_x7_clear ?_)
    | (with_reducible refine F8_x8_store ?_ _ _)
    | (with_reducible refine F8_x8_shorter ?_)
    | (with_reducible refine F8_x8_cycle ?_)
    | (with_reducible refine F8_x8_clear ?_)
    | (with_reducible refine F8_x9_store ?_ _ _)
    | (with_reducible refine F8_x9_cycle ?_)
    | (with_reducible refine F8_x9_clear ?_)
    | (with_reducible refine F8_x3_store ?_ _ _)
    | (with_reducible refine F8_x10_empty ?_)
    | (with_reducible refine F8_x10_store ?_ _ _)
    | (with_reducible refine F8_x10_done ?_)
    | (with_reducible refine F8_x10_cycle ?_)
    | (with_reducible refine F8_x10_read ?_ _ _)
    | (with_reducible refine F8_x10_page ?_ _ _)
    | (with_reducible refine Fr_k ?_ (by decide))
    | (with_reducible refine Fr_0 ?_ (by decide))
    | with_reducible refine Fr_iter' ?_ ?_
    | with_reducible refine Fr_ite ?_ ?_
    | with_reducible refine FrP_ite ?_ ?_
    | with_reducible refine Fr_ltS ?_ ?_
    | with_reducible refine Fr_ltP ?_ ?_
    | with_reducible refine Fr_lti ?_
    | with_reducible refine FrP_ltS ?_ ?_
    | with_reducible refine FrP_ltP ?_ ?_
    | with_reducible refine FrP_lti ?_
    | with_reducible refine FrP_i ?_)
theorem F8_x10_clear {c : Int32} {s : Sg} (h : Fr 8 c s)  : Fr 8 c (x10_clear s ) := by
  unfold x10_clear
  repeat' (first
    | assumption
    | (intro i s h)
    | (intro v s h)
    | (intro s h)
    | (intro x)
    | (with_reducible refine F8_x4_store ?_ _ _)
    | (with_reducible refine F8_x4_clear ?_)
    | (with_reducible refine F8_x11_clear ?_)
    | (with_reducible refine F8_x5_store ?_ _ _)
    | (with_reducible refine F8_x5_cycle ?_)
    | (with_reducible refine F8_x5_clear ?_)
    | (with_reducible refine F8_x6_load ?_ _)
    | (with_reducible refine F8_x6_store ?_ _ _)
    | (with_reducible refine F8_x6_receive ?_)
    | (with_reducible refine F8_x6_cycle ?_)
    | (with_reducible refine F8_x6_add ?_ _)
    | (with_reducible refine F8_x6_clear ?_)
    | (with_reducible refine F8_x7_store ?_ _ _)
    | (with_reducible refine F8_x7_cycle ?_)
    | (with_reducible refine F8_x7_clear ?_)
    | (with_reducible refine F8_x8_store ?_ _ _)
    | (with_reducible refine F8_x8_shorter ?_)
    | (with_reducible refine F8_x8_cycle ?_)
    | (with_reducible refine F8_x8_clear ?_)
    | (with_reducible refine F8_x9_store ?_ _ _)
    | (with_reducible refine F8_x9_cycle ?_)
    | (with_reducible refine F8_x9_clear ?_)
    | (with_reducible refine F8_x3_store ?_ _ _)
    | (with_reducible refine F8_x10_empty ?_)
    | (with_reducible refine F8_x10_store ?_ _ _)
    | (with_reducible refine F8_x10_done ?_)
    | (with_reducible refine F8_x10_cycle ?_)
    | (with_reducible refine F8_x10_read ?_ _ _)
    | (with_reducible refine F8_x10_page ?_ _ _)
    | (with_reducible refine F8_x10_stores ?_ _ _)
    | (with_reducible refine Fr_k ?_ (by decide))
    | (with_reducible refine Fr_0 ?_ (by decide))
    | with_reducible refine Fr_iter' ?_ ?_
    | with_reducible refine Fr_ite ?_ ?_
    | with_reducible refine FrP_ite ?_ ?_
    | with_reducible refine Fr_ltS ?_ ?_
    | with_reducible refine Fr_ltP ?_ ?_
    | with_reducible refine Fr_lti ?_
    | with_reducible refine FrP_ltS ?_ ?_
    | with_reducible refine FrP_ltP ?_ ?_
    | with_reducible refine FrP_lti ?_
    | with_reducible refine FrP_i ?_)
theorem F8_x2_toPair {c : Int32} {s : Sg} (h : Fr 8 c s) (x1 x2 : Int32) : Fr 8 c (x2_toPair s x1 x2) := by
  unfold x2_toPair
  repeat' (first
    | assumption
    | (intro i s h)
    | (intro v s h)
    | (intro s h)
    | (intro x)
    | (with_reducible refine F8_x4_store ?_ _ _)
    | (with_reducible refine F8_x4_clear ?_)
    | (with_reducible refine F8_x11_clear ?_)
    | (with_reducible refine F8_x5_store ?_ _ _)
    | (with_reducible refine F8_x5_cycle ?_)
    | (with_reducible refine F8_x5_clear ?_)
    | (with_reducible refine F8_x6_load ?_ _)
    | (with_reducible refine F8_x6_store ?_ _ _)
    | (with_reducible refine F8_x6_receive ?_)
    | (with_reducible refine F8_x6_cycle ?_)
    | (with_reducible refine F8_x6_add ?_ _)
    | (with_reducible refine F8_x6_clear ?_)
    | (with_reducible refine F8_x7_store ?_ _ _)
    | (with_reducible refine F8_x7_cycle ?_)
    | (with_reducible refine F8_x7_clear ?_)
    | (with_reducible refine F8_x8_store ?_ _ _)
    | (with_reducible refine F8_x8_shorter ?_)
    | (with_reducible refine F8_x8_cycle ?_)
    | (with_reducible refine F8_x8_clear ?_)
    | (with_reducible refine F8_x9_store ?_ _ _)
    | (with_reducible refine F8_x9_cycle ?_)
    | (with_reducible refine F8_x9_clear ?_)
    | (with_reducible refine F8_x3_store ?_ _ _)
    | (with_reducible refine F8_x10_empty ?_)
    | (with_reducible refine F8_x10_store ?_ _ _)
    | (with_reducible refine F8_x10_done ?_)
    | (with_reducible refine F8_x10_cycle ?_)
    | (with_reducible refine F8_x10_read ?_ _ _)
    | (with_reducible refine F8_x10_page ?_ _ _)
    | (with_reducible refine F8_x10_stores ?_ _ _)
    | (with_reducible refine F8_x10_clear ?_)
    | (with_reducible refine Fr_k ?_ (by decide))
    | (with_reducible refine Fr_0 ?_ (by decide))
    | with_reducible refine Fr_iter' ?_ ?_
    | with_reducible refine Fr_ite ?_ ?_
    | with_reducible refine FrP_ite ?_ ?_
    | with_reducible refine Fr_ltS ?_ ?_
    | with_reducible refine Fr_ltP ?_ ?_
    | with_reducible refine Fr_lti ?_
    | with_reducible refine FrP_ltS ?_ ?_
    | with_reducible refine FrP_ltP ?_ ?_
    | with_reducible refine FrP_lti ?_
    | with_reducible refine FrP_i ?_)
theorem F8_x2_toStack {c : Int32} {s : Sg} (h : Fr 8 c s) (x1 : Int32) : Fr 8 c (x2_toStack s x1) := by
  unfold x2_toStack
  repeat' (first
    | assumption
    | (intro i s h)
    | (intro v s h)
    | (intro s h)
    | (intro x)
    | (with_reducible refine F8_x4_store ?_ _ _)
    | (with_reducible refine F8_x4_clear ?_)
    | (with_reducible refine F8_x11_clear ?_)
    | (with_reducible refine F8_x5_store ?_ _ _)
    | (with_reducible refine F8_x5_cycle ?_)
    | (with_reducible refine F8_x5_clear ?_)
    | (with_reducible refine F8_x6_load ?_ _)
    | (with_reducible refine F8_x6_store ?_ _ _)
    | (with_reducible refine F8_x6_receive ?_)
    | (with_reducible refine F8_x6_cycle ?_)
    | (with_reducible refine F8_x6_add ?_ _)
    | (with_reducible refine F8_x6_clear ?_)
    | (with_reducible refine F8_x7_store ?_ _ _)
    | (with_reducible refine F8_x7_cycle ?_)
    | (with_reducible refine F8_x7_clear ?_)
    | (with_reducible refine F8_x8_store ?_ _ _)
    | (with_reducible refine F8_x8_shorter ?_)
    | (with_reducible refine F8_x8_cycle ?_)
    | (with_reducible refine F8_x8_clear ?_)
    | (with_reducible refine F8_x9_store ?_ _ _)
    | (with_reducible refine F8_x9_cycle ?_)
    | (with_reducible refine F8_x9_clear ?_)
    | (with_reducible refine F8_x3_store ?_ _ _)
    | (with_reducible refine F8_x10_empty ?_)
    | (with_reducible refine F8_x10_store ?_ _ _)
    | (with_reducible refine F8_x10_done ?_)
    | (with_reducible refine F8_x10_cycle ?_)
    | (with_reducible refine F8_x10_read ?_ _ _)
    | (with_reducible refine F8_x10_page ?_ _ _)
    | (with_reducible refine F8_x10_stores ?_ _ _)
    | (with_reducible refine F8_x10_clear ?_)
    | (with_reducible refine F8_x2_toPair ?_ _ _)
    | (with_reducible refine Fr_k ?_ (by decide))
    | (with_reducible refine Fr_0 ?_ (by decide))
    | with_reducible refine Fr_iter' ?_ ?_
    | with_reducible refine Fr_ite ?_ ?_
    | with_reducible refine FrP_ite ?_ ?_
    | with_reducible refine Fr_ltS ?_ ?_
    | with_reducible refine Fr_ltP ?_ ?_
    | with_reducible refine Fr_lti ?_
    | with_reducible refine FrP_ltS ?_ ?_
    | with_reducible refine FrP_ltP ?_ ?_
    | with_reducible refine FrP_lti ?_
    | with_reducible refine FrP_i ?_)
theorem F8_x2_load {c : Int32} {s : Sg} (h : Fr 8 c s) (x1 : Int32) : FrP 8 c (x2_load s x1) := by
  unfold x2_load
  repeat' (first
    | assumption
    | (intro i s h)
    | (intro v s h)
    | (intro s h)
    | (intro x)
    | (with_reducible refine F8_x4_store ?_ _ _)
    | (with_reducible refine F8_x4_clear ?_)
    | (with_reducible refine F8_x11_clear ?_)
    | (with_reducible refine F8_x5_store ?_ _ _)
    | (with_reducible refine F8_x5_cycle ?_)
    | (with_reducible refine F8_x5_clear ?_)
    | (with_reducible refine F8_x6_load ?_ _)
    | (with_reducible refine F8_x6_store ?_ _ _)
    | (with_reducible refine F8_x6_receive ?_)
    | (with_reducible refine F8_x6_cycle ?_)
    | (with_reducible refine F8_x6_add ?_ _)
    | (with_reducible refine F8_x6_clear ?_)
    | (with_reducible refine F8_x7_store ?_ _ _)
    | (with_reducible refine F8_x7_cycle ?_)
    | (with_reducible refine F8_x7_clear ?_)
    | (with_reducible refine F8_x8_store ?_ _ _)
    | (with_reducible refine F8_x8_shorter ?_)
    | (with_reducible refine F8_x8_cycle ?_)
    | (with_reducible refine F8_x8_clear ?_)
    | (with_reducible refine F8_x9_store ?_ _ _)
    | (with_reducible refine F8_x9_cycle ?_)
    | (with_reducible refine F8_x9_clear ?_)
    | (with_reducible refine F8_x3_store ?_ _ _)
    | (with_reducible refine F8_x10_empty ?_)
    | (with_reducible refine F8_x10_store ?_ _ _)
    | (with_reducible refine F8_x10_done ?_)
    | (with_reducible refine F8_x10_cycle ?_)
    | (with_reducible refine F8_x10_read ?_ _ _)
    | (with_reducible refine F8_x10_page ?_ _ _)
    | (with_reducible refine F8_x10_stores ?_ _ _)
    | (with_reducible refine F8_x10_clear ?_)
    | (with_reducible refine F8_x2_toPair ?_ _ _)
    | (with_reducible refine F8_x2_toStack ?_ _)
    | (with_reducible refine Fr_k ?_ (by decide))
    | (with_reducible refine Fr_0 ?_ (by decide))
    | with_reducible refine Fr_iter' ?_ ?_
    | with_reducible refine Fr_ite ?_ ?_
    | with_reducible refine FrP_ite ?_ ?_
    | with_reducible refine Fr_ltS ?_ ?_
    | with_reducible refine Fr_ltP ?_ ?_
    | with_reducible refine Fr_lti ?_
    | with_reducible refine FrP_ltS ?_ ?_
    | with_reducible refine FrP_ltP ?_ ?_
    | with_reducible refine FrP_lti ?_
    | with_reducible refine FrP_i ?_)
theorem F8_x2_store {c : Int32} {s : Sg} (h : Fr 8 c s) (x1 x2 : Int32) : Fr 8 c (x2_store s x1 x2) := by
  unfold x2_store
  repeat' (first
    | assumption
    | (intro i s h)
    | (intro v s h)
    | (intro s h)
    | (intro x)
    | (with_reducible refine F8_x4_store ?_ _ _)
    | (with_reducible refine F8_x4_clear ?_)
    | (with_reducible refine F8_x11_clear ?_)
    | (with_reducible refine F8_x5_store ?_ _ _)
    | (with_reducible refine F8_x5_cycle ?_)
    | (with_reducible refine F8_x5_clear ?_)
    | (with_reducible refine F8_x6_load ?_ _)
    | (with_reducible refine F8_x6_store ?_ _ _)
    | (with_reducible refine F8_x6_receive ?_)
    | (with_reducible refine F8_x6_cycle ?_)
    | (with_reducible refine F8_x6_add ?_ _)
    | (with_reducible refine F8_x6_clear ?_)
    | (with_reducible refine F8_x7_store ?_ _ _)
    | (with_reducible refine F8_x7_cycle ?_)
    | (with_reducible refine F8_x7_clear ?_)
    | (with_reducible refine F8_x8_store ?_ _ _)
    | (with_reducible refine F8_x8_shorter ?_)
    | (with_reducible refine F8_x8_cycle ?_)
    | (with_reducible refine F8_x8_clear ?_)
    | (with_reducible refine F8_x9_store ?_ _ _)
    | (with_reducible refine F8_x9_cycle ?_)
    | (with_reducible refine F8_x9_clear ?_)
    | (with_reducible refine F8_x3_store ?_ _ _)
    | (with_reducible refine F8_x10_empty ?_)
    | (with_reducible refine F8_x10_store ?_ _ _)
    | (with_reducible refine F8_x10_done ?_)
    | (with_reducible refine F8_x10_cycle ?_)
    | (with_reducible refine F8_x10_read ?_ _ _)
    | (with_reducible refine F8_x10_page ?_ _ _)
    | (with_reducible refine F8_x10_stores ?_ _ _)
    | (with_reducible refine F8_x10_clear ?_)
    | (with_reducible refine F8_x2_toPair ?_ _ _)
    | (with_reducible refine F8_x2_toStack ?_ _)
    | (with_reducible refine F8_x2_load ?_ _)
    | (with_reducible refine Fr_k ?_ (by decide))
    | (with_reducible refine Fr_0 ?_ (by decide))
    | with_reducible refine Fr_iter' ?_ ?_
    | with_reducible refine Fr_ite ?_ ?_
    | with_reducible refine FrP_ite ?_ ?_
    | with_reducible refine Fr_ltS ?_ ?_
    | with_reducible refine Fr_ltP ?_ ?_
    | with_reducible refine Fr_lti ?_
    | with_reducible refine FrP_ltS ?_ ?_
    | with_reducible refine FrP_ltP ?_ ?_
    | with_reducible refine FrP_lti ?_
    | with_reducible refine FrP_i ?_)
theorem F8_x2_push {c : Int32} {s : Sg} (h : Fr 8 c s) (x1 : Int32) : Fr 8 c (x2_push s x1) := by
  unfold x2_push
  repeat' (first
    | assumption
    | (intro i s h)
    | (intro v s h)
    | (intro s h)
    | (intro x)
    | (with_reducible refine F8_x4_store ?_ _ _)
    | (with_reducible refine F8_x4_clear ?_)
    | (with_reducible refine F8_x11_clear ?_)
    | (with_reducible refine F8_x5_store ?_ _ _)
    | (with_reducible refine F8_x5_cycle ?_)
    | (with_reducible refine F8_x5_clear ?_)
    | (with_reducible refine F8_x6_load ?_ _)
    | (with_reducible refine F8_x6_store ?_ _ _)
    | (with_reducible refine F8_x6_receive ?_)
    | (with_reducible refine F8_x6_cycle ?_)
    | (with_reducible refine F8_x6_add ?_ _)
    | (with_reducible refine F8_x6_clear ?_)
    | (with_reducible refine F8_x7_store ?_ _ _)
    | (with_reducible refine F8_x7_cycle ?_)
    | (with_reducible refine F8_x7_clear ?_)
    | (with_reducible refine F8_x8_store ?_ _ _)
    | (with_reducible refine F8_x8_shorter ?_)
    | (with_reducible refine F8_x8_cycle ?_)
    | (with_reducible refine F8_x8_clear ?_)
    | (with_reducible refine F8_x9_store ?_ _ _)
    | (with_reducible refine F8_x9_cycle ?_)
    | (with_reducible refine F8_x9_clear ?_)
    | (with_reducible refine F8_x3_store ?_ _ _)
    | (with_reducible refine F8_x10_empty ?_)
    | (with_reducible refine F8_x10_store ?_ _ _)
    | (with_reducible refine F8_x10_done ?_)
    | (with_reducible refine F8_x10_cycle ?_)
    | (with_reducible refine F8_x10_read ?_ _ _)
    | (with_reducible refine F8_x10_page ?_ _ _)
    | (with_reducible refine F8_x10_stores ?_ _ _)
    | (with_reducible refine F8_x10_clear ?_)
    | (with_reducible refine F8_x2_toPair ?_ _ _)
    | (with_reducible refine F8_x2_toStack ?_ _)
    | (with_reducible refine F8_x2_load ?_ _)
    | (with_reducible refine F8_x2_store ?_ _ _)
    | (with_reducible refine Fr_k ?_ (by decide))
    | (with_reducible refine Fr_0 ?_ (by decide))
    | with_reducible refine Fr_iter' ?_ ?_
    | with_reducible refine Fr_ite ?_ ?_
    | with_reducible refine FrP_ite ?_ ?_
    | with_reducible refine Fr_ltS ?_ ?_
    | with_reducible refine Fr_ltP ?_ ?_
    | with_reducible refine Fr_lti ?_
    | with_reducible refine FrP_ltS ?_ ?_
    | with_reducible refine FrP_ltP ?_ ?_
    | with_reducible refine FrP_lti ?_
    | with_reducible refine FrP_i ?_)
theorem F8_x2_pop {c : Int32} {s : Sg} (h : Fr 8 c s)  : FrP 8 c (x2_pop s ) := by
  unfold x2_pop
  repeat' (first
    | assumption
    | (intro i s h)
    | (intro v s h)
    | (intro s h)
    | (intro x)
    | (with_reducible refine F8_x4_store ?_ _ _)
    | (with_reducible refine F8_x4_clear ?_)
    | (with_reducible refine F8_x11_clear ?_)
    | (with_reducible refine F8_x5_store ?_ _ _)
    | (with_reducible refine F8_x5_cycle ?_)
    | (with_reducible refine F8_x5_clear ?_)
    | (with_reducible refine F8_x6_load ?_ _)
    | (with_reducible refine F8_x6_store ?_ _ _)
    | (with_reducible refine F8_x6_receive ?_)
    | (with_reducible refine F8_x6_cycle ?_)
    | (with_reducible refine F8_x6_add ?_ _)
    | (with_reducible refine F8_x6_clear ?_)
    | (with_reducible refine F8_x7_store ?_ _ _)
    | (with_reducible refine F8_x7_cycle ?_)
    | (with_reducible refine F8_x7_clear ?_)
    | (with_reducible refine F8_x8_store ?_ _ _)
    | (with_reducible refine F8_x8_shorter ?_)
    | (with_reducible refine F8_x8_cycle ?_)
    | (with_reducible refine F8_x8_clear ?_)
    | (with_reducible refine F8_x9_store ?_ _ _)
    | (with_reducible refine F8_x9_cycle ?_)
    | (with_reducible refine F8_x9_clear ?_)
    | (with_reducible refine F8_x3_store ?_ _ _)
    | (with_reducible refine F8_x10_empty ?_)
    | (with_reducible refine F8_x10_store ?_ _ _)
    | (with_reducible refine F8_x10_done ?_)
    | (with_reducible refine F8_x10_cycle ?_)
    | (with_reducible refine F8_x10_read ?_ _ _)
    | (with_reducible refine F8_x10_page ?_ _ _)
    | (with_reducible refine F8_x10_stores ?_ _ _)
    | (with_reducible refine F8_x10_clear ?_)
    | (with_reducible refine F8_x2_toPair ?_ _ _)
    | (with_reducible refine F8_x2_toStack ?_ _)
    | (with_reducible refine F8_x2_load ?_ _)
    | (with_reducible refine F8_x2_store ?_ _ _)
    | (with_reducible refine F8_x2_push ?_ _)
    | (with_reducible refine Fr_k ?_ (by decide))
    | (with_reducible refine Fr_0 ?_ (by decide))
    | with_reducible refine Fr_iter' ?_ ?_
    | with_reducible refine Fr_ite ?_ ?_
    | with_reducible refine FrP_ite ?_ ?_
    | with_reducible refine Fr_ltS ?_ ?_
    | with_reducible refine Fr_ltP ?_ ?_
    | with_reducible refine Fr_lti ?_
    | with_reducible refine FrP_ltS ?_ ?_
    | with_reducible refine FrP_ltP ?_ ?_
    | with_reducible refine FrP_lti ?_
    | with_reducible refine FrP_i ?_)
theorem F8_x2_go {c : Int32} {s : Sg} (h : Fr 8 c s) (x1 : Int32) : Fr 8 c (x2_go s x1) := by
  unfold x2_go
  repeat' (first
    | assumption
    | (intro i s h)
    | (intro v s h)
    | (intro s h)
    | (intro x)
    | (with_reducible refine F8_x4_store ?_ _ _)
    | (with_reducible refine F8_x4_clear ?_)
    | (with_reducible refine F8_x11_clear ?_)
    | (with_reducible refine F8_x5_store ?_ _ _)
    | (with_reducible refine F8_x5_cycle ?_)
    | (with_reducible refine F8_x5_clear ?_)
    | (with_reducible refine F8_x6_load ?_ _)
    | (with_reducible refine F8_x6_store ?_ _ _)
    | (with_reducible refine F8_x6_receive ?_)
    | (with_reducible refine F8_x6_cycle ?_)
    | (with_reducible refine F8_x6_add ?_ _)
    | (with_reducible refine F8_x6_clear ?_)
    | (with_reducible refine F8_x7_store ?_ _ _)
    | (with_reducible refine F8_x7_cycle ?_)
    | (with_reducible refine F8_x7_clear ?_)
    | (with_reducible refine F8_x8_store ?_ _ _)
    | (with_reducible refine F8_x8_shorter ?_)
    | (with_reducible refine F8_x8_cycle ?_)
    | (with_reducible refine F8_x8_clear ?_)
    | (with_reducible refine F8_x9_store ?_ _ _)
    | (with_reducible refine F8_x9_cycle ?_)
    | (with_reducible refine F8_x9_clear ?_)
    | (with_reducible refine F8_x3_store ?_ _ _)
    | (with_reducible refine F8_x10_empty ?_)
    | (with_reducible refine F8_x10_store ?_ _ _)
    | (with_reducible refine F8_x10_done ?_)
    | (with_reducible refine F8_x10_cycle ?_)
    | (with_reducible refine F8_x10_read ?_ _ _)
    | (with_reducible refine F8_x10_page ?_ _ _)
    | (with_reducible refine F8_x10_stores ?_ _ _)
    | (with_reducible refine F8_x10_clear ?_)
    | (with_reducible refine F8_x2_toPair ?_ _ _)
    | (with_reducible refine F8_x2_toStack ?_ _)
    | (with_reducible refine F8_x2_load ?_ _)
    | (with_reducible refine F8_x2_store ?_ _ _)
    | (with_reducible refine F8_x2_push ?_ _)
    | (with_reducible refine F8_x2_pop ?_)
    | (with_reducible refine Fr_k ?_ (by decide))
    | (with_reducible refine Fr_0 ?_ (by decide))
    | with_reducible refine Fr_iter' ?_ ?_
    | with_reducible refine Fr_ite ?_ ?_
    | with_reducible refine FrP_ite ?_ ?_
    | with_reducible refine Fr_ltS ?_ ?_
    | with_reducible refine Fr_ltP ?_ ?_
    | with_reducible refine Fr_lti ?_
    | with_reducible refine FrP_ltS ?_ ?_
    | with_reducible refine FrP_ltP ?_ ?_
    | with_reducible refine FrP_lti ?_
    | with_reducible refine FrP_i ?_)
theorem F8_x2_pushPlace {c : Int32} {s : Sg} (h : Fr 8 c s)  : Fr 8 c (x2_pushPlace s ) := by
  unfold x2_pushPlace
  repeat' (first
    | assumption
    | (intro i s h)
    | (intro v s h)
    | (intro s h)
    | (intro x)
    | (with_reducible refine F8_x4_store ?_ _ _)
    | (with_reducible refine F8_x4_clear ?_)
    | (with_reducible refine F8_x11_clear ?_)
    | (with_reducible refine F8_x5_store ?_ _ _)
    | (with_reducible refine F8_x5_cycle ?_)
    | (with_reducible refine F8_x5_clear ?_)
    | (with_reducible refine F8_x6_load ?_ _)
    | (with_reducible refine F8_x6_store ?_ _ _)
    | (with_reducible refine F8_x6_receive ?_)
    | (with_reducible refine F8_x6_cycle ?_)
    | (with_reducible refine F8_x6_add ?_ _)
    | (with_reducible refine F8_x6_clear ?_)
    | (with_reducible refine F8_x7_store ?_ _ _)
    | (with_reducible refine F8_x7_cycle ?_)
    | (with_reducible refine F8_x7_clear ?_)
    | (with_reducible refine F8_x8_store ?_ _ _)
    | (with_reducible refine F8_x8_shorter ?_)
    | (with_reducible refine F8_x8_cycle ?_)
    | (with_reducible refine F8_x8_clear ?_)
    | (with_reducible refine F8_x9_store ?_ _ _)
    | (with_reducible refine F8_x9_cycle ?_)
    | (with_reducible refine F8_x9_clear ?_)
    | (with_reducible refine F8_x3_store ?_ _ _)
    | (with_reducible refine F8_x10_empty ?_)
    | (with_reducible refine F8_x10_store ?_ _ _)
    | (with_reducible refine F8_x10_done ?_)
    | (with_reducible refine F8_x10_cycle ?_)
    | (with_reducible refine F8_x10_read ?_ _ _)
    | (with_reducible refine F8_x10_page ?_ _ _)
    | (with_reducible refine F8_x10_stores ?_ _ _)
    | (with_reducible refine F8_x10_clear ?_)
    | (with_reducible refine F8_x2_toPair ?_ _ _)
    | (with_reducible refine F8_x2_toStack ?_ _)
    | (with_reducible refine F8_x2_load ?_ _)
    | (with_reducible refine F8_x2_store ?_ _ _)
    | (with_reducible refine F8_x2_push ?_ _)
    | (with_reducible refine F8_x2_pop ?_)
    | (with_reducible refine F8_x2_go ?_ _)
    | (with_reducible refine Fr_k ?_ (by decide))
    | (with_reducible refine Fr_0 ?_ (by decide))
    | with_reducible refine Fr_iter' ?_ ?_
    | with_reducible refine Fr_ite ?_ ?_
    | with_reducible refine FrP_ite ?_ ?_
    | with_reducible refine Fr_ltS ?_ ?_
    | with_reducible refine Fr_ltP ?_ ?_
    | with_reducible refine Fr_lti ?_
    | with_reducible refine FrP_ltS ?_ ?_
    | with_reducible refine FrP_ltP ?_ ?_
    | with_reducible refine FrP_lti ?_
    | with_reducible refine FrP_i ?_)
theorem F8_x2_popPlace {c : Int32} {s : Sg} (h : Fr 8 c s)  : Fr 8 c (x2_popPlace s ) := by
  unfold x2_popPlace
  repeat' (first
    | assumption
    | (intro i s h)
    | (intro v s h)
    | (intro s h)
    | (intro x)
    | (with_reducible refine F8_x4_store ?_ _ _)
    | (with_reducible refine F8_x4_clear ?_)
    | (with_reducible refine F8_x11_clear ?_)
    | (with_reducible refine F8_x5_store ?_ _ _)
    | (with_reducible refine F8_x5_cycle ?_)
    | (with_reducible refine F8_x5_clear ?_)
    | (with_reducible refine F8_x6_load ?_ _)
    | (with_reducible refine F8_x6_store ?_ _ _)
    | (with_reducible refine F8_x6_receive ?_)
    | (with_reducible refine F8_x6_cycle ?_)
    | (with_reducible refine F8_x6_add ?_ _)
    | (with_reducible refine F8_x6_clear ?_)
    | (with_reducible refine F8_x7_store ?_ _ _)
    | (with_reducible refine F8_x7_cycle ?_)
    | (with_reducible refine F8_x7_clear ?_)
    | (with_reducible refine F8_x8_store ?_ _ _)
    | (with_reducible refine F8_x8_shorter ?_)
    | (with_reducible refine F8_x8_cycle ?_)
    | (with_reducible refine F8_x8_clear ?_)
    | (with_reducible refine F8_x9_store ?_ _ _)
    | (with_reducible refine F8_x9_cycle ?_)
    | (with_reducible refine F8_x9_clear ?_)
    | (with_reducible refine F8_x3_store ?_ _ _)
    | (with_reducible refine F8_x10_empty ?_)
    | (with_reducible refine F8_x10_store ?_ _ _)
    | (with_reducible refine F8_x10_done ?_)
    | (with_reducible refine F8_x10_cycle ?_)
    | (with_reducible refine F8_x10_read ?_ _ _)
    | (with_reducible refine F8_x10_page ?_ _ _)
    | (with_reducible refine F8_x10_stores ?_ _ _)
    | (with_reducible refine F8_x10_clear ?_)
    | (with_reducible refine F8_x2_toPair ?_ _ _)
    | (with_reducible refine F8_x2_toStack ?_ _)
    | (with_reducible refine F8_x2_load ?_ _)
    | (with_reducible refine F8_x2_store ?_ _ _)
    | (with_reducible refine F8_x2_push ?_ _)
    | (with_reducible refine F8_x2_pop ?_)
    | (with_reducible refine F8_x2_go ?_ _)
    | (with_reducible refine F8_x2_pushPlace ?_)
    | (with_reducible refine Fr_k ?_ (by decide))
    | (with_reducible refine Fr_0 ?_ (by decide))
    | with_reducible refine Fr_iter' ?_ ?_
    | with_reducible refine Fr_ite ?_ ?_
    | with_reducible refine FrP_ite ?_ ?_
    | with_reducible refine Fr_ltS ?_ ?_
    | with_reducible refine Fr_ltP ?_ ?_
    | with_reducible refine Fr_lti ?_
    | with_reducible refine FrP_ltS ?_ ?_
    | with_reducible refine FrP_ltP ?_ ?_
    | with_reducible refine FrP_lti ?_
    | with_reducible refine FrP_i ?_)
theorem F8_x2_set {c : Int32} {s : Sg} (h : Fr 8 c s) (x1 x2 : Int32) : Fr 8 c (x2_set s x1 x2) := by
  unfold x2_set
  repeat' (first
    | assumption
    | (intro i s h)
    | (intro v s h)
    | (intro s h)
    | (intro x)
    | (with_reducible refine F8_x4_store ?_ _ _)
    | (with_reducible refine F8_x4_clear ?_)
    | (with_reducible refine F8_x11_clear ?_)
    | (with_reducible refine F8_x5_store ?_ _ _)
    | (with_reducible refine F8_x5_cycle ?_)
    | (with_reducible refine F8_x5_clear ?_)
    | (with_reducible refine F8_x6_load ?_ _)
    | (with_reducible refine F8_x6_store ?_ _ _)
    | (with_reducible refine F8_x6_receive ?_)
    | (with_reducible refine F8_x6_cycle ?_)
    | (with_reducible refine F8_x6_add ?_ _)
    | (with_reducible refine F8_x6_clear ?_)
    | (with_reducible refine F8_x7_store ?_ _ _)
    | (with_reducible refine F8_x7_cycle ?_)
    | (with_reducible refine F8_x7_clear ?_)
    | (with_reducible refine F8_x8_store ?_ _ _)
    | (with_reducible refine F8_x8_shorter ?_)
    | (with_reducible refine F8_x8_cycle ?_)
    | (with_reducible refine F8_x8_clear ?_)
    | (with_reducible refine F8_x9_store ?_ _ _)
    | (with_reducible refine F8_x9_cycle ?_)
    | (with_reducible refine F8_x9_clear ?_)
    | (with_reducible refine F8_x3_store ?_ _ _)
    | (with_reducible refine F8_x10_empty ?_)
    | (with_reducible refine F8_x10_store ?_ _ _)
    | (with_reducible refine F8_x10_done ?_)
    | (with_reducible refine F8_x10_cycle ?_)
    | (with_reducible refine F8_x10_read ?_ _ _)
    | (with_reducible refine F8_x10_page ?_ _ _)
    | (with_reducible refine F8_x10_stores ?_ _ _)
    | (with_reducible refine F8_x10_clear ?_)
    | (with_reducible refine F8_x2_toPair ?_ _ _)
    | (with_reducible refine F8_x2_toStack ?_ _)
    | (with_reducible refine F8_x2_load ?_ _)
    | (with_reducible refine F8_x2_store ?_ _ _)
    | (with_reducible refine F8_x2_push ?_ _)
    | (with_reducible refine F8_x2_pop ?_)
    | (with_reducible refine F8_x2_go ?_ _)
    | (with_reducible refine F8_x2_pushPlace ?_)
    | (with_reducible refine F8_x2_popPlace ?_)
    | (with_reducible refine Fr_k ?_ (by decide))
    | (with_reducible refine Fr_0 ?_ (by decide))
    | with_reducible refine Fr_iter' ?_ ?_
    | with_reducible refine Fr_ite ?_ ?_
    | with_reducible refine FrP_ite ?_ ?_
    | with_reducible refine Fr_ltS ?_ ?_
    | with_reducible refine Fr_ltP ?_ ?_
    | with_reducible refine Fr_lti ?_
    | with_reducible refine FrP_ltS ?_ ?_
    | with_reducible refine FrP_ltP ?_ ?_
    | with_reducible refine FrP_lti ?_
    | with_reducible refine FrP_i ?_)
theorem F8_x2_by {c : Int32} {s : Sg} (h : Fr 8 c s) (x1 x2 : Int32) : Fr 8 c (x2_by s x1 x2) := by
  unfold x2_by
  repeat' (first
    | assumption
    | (intro i s h)
    | (intro v s h)
    | (intro s h)
    | (intro x)
    | (with_reducible refine F8_x4_store ?_ _ _)
    | (with_reducible refine F8_x4_clear ?_)
    | (with_reducible refine F8_x11_clear ?_)
    | (with_reducible refine F8_x5_store ?_ _ _)
    | (with_reducible refine F8_x5_cycle ?_)
    | (with_reducible refine F8_x5_clear ?_)
    | (with_reducible refine F8_x6_load ?_ _)
    | (with_reducible refine F8_x6_store ?_ _ _)
    | (with_reducible refine F8_x6_receive ?_)
    | (with_reducible refine F8_x6_cycle ?_)
    | (with_reducible refine F8_x6_add ?_ _)
    | (with_reducible refine F8_x6_clear ?_)
    | (with_reducible refine F8_x7_store ?_ _ _)
    | (with_reducible refine F8_x7_cycle ?_)
    | (with_reducible refine F8_x7_clear ?_)
    | (with_reducible refine F8_x8_store ?_ _ _)
    | (with_reducible refine F8_x8_shorter ?_)
    | (with_reducible refine F8_x8_cycle ?_)
    | (with_reducible refine F8_x8_clear ?_)
    | (with_reducible refine F8_x9_store ?_ _ _)
    | (with_reducible refine F8_x9_cycle ?_)
    | (with_reducible refine F8_x9_clear ?_)
    | (with_reducible refine F8_x3_store ?_ _ _)
    | (with_reducible refine F8_x10_empty ?_)
    | (with_reducible refine F8_x10_store ?_ _ _)
    | (with_reducible refine F8_x10_done ?_)
    | (with_reducible refine F8_x10_cycle ?_)
    | (with_reducible refine F8_x10_read ?_ _ _)
    | (with_reducible refine F8_x10_page ?_ _ _)
    | (with_reducible refine F8_x10_stores ?_ _ _)
    | (with_reducible refine F8_x10_clear ?_)
    | (with_reducible refine F8_x2_toPair ?_ _ _)
    | (with_reducible refine F8_x2_toStack ?_ _)
    | (with_reducible refine F8_x2_load ?_ _)
    | (with_reducible refine F8_x2_store ?_ _ _)
    | (with_reducible refine F8_x2_push ?_ _)
    | (with_reducible refine F8_x2_pop ?_)
    | (with_reducible refine F8_x2_go ?_ _)
    | (with_reducible refine F8_x2_pushPlace ?_)
    | (with_reducible refine F8_x2_popPlace ?_)
    | (with_reducible refine F8_x2_set ?_ _ _)
    | (with_reducible refine Fr_k ?_ (by decide))
    | (with_reducible refine Fr_0 ?_ (by decide))
    | with_reducible refine Fr_iter' ?_ ?_
    | with_reducible refine Fr_ite ?_ ?_
    | with_reducible refine FrP_ite ?_ ?_
    | with_reducible refine Fr_ltS ?_ ?_
    | with_reducible refine Fr_ltP ?_ ?_
    | with_reducible refine Fr_lti ?_
    | with_reducible refine FrP_ltS ?_ ?_
    | with_reducible refine FrP_ltP ?_ ?_
    | with_reducible refine FrP_lti ?_
    | with_reducible refine FrP_i ?_)
theorem F8_x2_added {c : Int32} {s : Sg} (h : Fr 8 c s) (x1 x2 x3 : Int32) : FrP 8 c (x2_added s x1 x2 x3) := by
  unfold x2_added
  repeat' (first
    | assumption
    | (intro i s h)
    | (intro v s h)
    | (intro s h)
    | (intro x)
    | (with_reducible refine F8_x4_store ?_ _ _)
    | (with_reducible refine F8_x4_clear ?_)
    | (with_reducible refine F8_x11_clear ?_)
    | (with_reducible refine F8_x5_store ?_ _ _)
    | (with_reducible refine F8_x5_cycle ?_)
    | (with_reducible refine F8_x5_clear ?_)
    | (with_reducible refine F8_x6_load ?_ _)
    | (with_reducible refine F8_x6_store ?_ _ _)
    | (with_reducible refine F8_x6_receive ?_)
    | (with_reducible refine F8_x6_cycle ?_)
    | (with_reducible refine F8_x6_add ?_ _)
    | (with_reducible refine F8_x6_clear ?_)
    | (with_reducible refine F8_x7_store ?_ _ _)
    | (with_reducible refine F8_x7_cycle ?_)
    | (with_reducible refine F8_x7_clear ?_)
    | (with_reducible refine F8_x8_store ?_ _ _)
    | (with_reducible refine F8_x8_shorter ?_)
    | (with_reducible refine F8_x8_cycle ?_)
    | (with_reducible refine F8_x8_clear ?_)
    | (with_reducible refine F8_x9_store ?_ _ _)
    | (with_reducible refine F8_x9_cycle ?_)
    | (with_reducible refine F8_x9_clear ?_)
    | (with_reducible refine F8_x3_store ?_ _ _)
    | (with_reducible refine F8_x10_empty ?_)
    | (with_reducible refine F8_x10_store ?_ _ _)
    | (with_reducible refine F8_x10_done ?_)
    | (with_reducible refine F8_x10_cycle ?_)
    | (with_reducible refine F8_x10_read ?_ _ _)
    | (with_reducible refine F8_x10_page ?_ _ _)
    | (with_reducible refine F8_x10_stores ?_ _ _)
    | (with_reducible refine F8_x10_clear ?_)
    | (with_reducible refine F8_x2_toPair ?_ _ _)
    | (with_reducible refine F8_x2_toStack ?_ _)
    | (with_reducible refine F8_x2_load ?_ _)
    | (with_reducible refine F8_x2_store ?_ _ _)
    | (with_reducible refine F8_x2_push ?_ _)
    | (with_reducible refine F8_x2_pop ?_)
    | (with_reducible refine F8_x2_go ?_ _)
    | (with_reducible refine F8_x2_pushPlace ?_)
    | (with_reducible refine F8_x2_popPlace ?_)
    | (with_reducible refine F8_x2_set ?_ _ _)
    | (with_reducible refine F8_x2_by ?_ _ _)
    | (with_reducible refine Fr_k ?_ (by decide))
    | (with_reducible refine Fr_0 ?_ (by decide))
    | with_reducible refine Fr_iter' ?_ ?_
    | with_reducible refine Fr_ite ?_ ?_
    | with_reducible refine FrP_ite ?_ ?_
    | with_reducible refine Fr_ltS ?_ ?_
    | with_reducible refine Fr_ltP ?_ ?_
    | with_reducible refine Fr_lti ?_
    | with_reducible refine FrP_ltS ?_ ?_
    | with_reducible refine FrP_ltP ?_ ?_
    | with_reducible refine FrP_lti ?_
    | with_reducible refine FrP_i ?_)
theorem F8_x2_taken {c : Int32} {s : Sg} (h : Fr 8 c s) (x1 x2 x3 : Int32) : FrP 8 c (x2_taken s x1 x2 x3) := by
  unfold x2_taken
  repeat' (first
    | assumption
    | (intro i s h)
    | (intro v s h)
    | (intro s h)
    | (intro x)
    | (with_reducible refine F8_x4_store ?_ _ _)
    | (with_reducible refine F8_x4_clear ?_)
    | (with_reducible refine F8_x11_clear ?_)
    | (with_reducible refine F8_x5_store ?_ _ _)
    | (with_reducible refine F8_x5_cycle ?_)
    | (with_reducible refine F8_x5_clear ?_)
    | (with_reducible refine F8_x6_load ?_ _)
    | (with_reducible refine F8_x6_store ?_ _ _)
    | (with_reducible refine F8_x6_receive ?_)
    | (with_reducible refine F8_x6_cycle ?_)
    | (with_reducible refine F8_x6_add ?_ _)
    | (with_reducible refine F8_x6_clear ?_)
    | (with_reducible refine F8_x7_store ?_ _ _)
    | (with_reducible refine F8_x7_cycle ?_)
    | (with_reducible refine F8_x7_clear ?_)
    | (with_reducible refine F8_x8_store ?_ _ _)
    | (with_reducible refine F8_x8_shorter ?_)
    | (with_reducible refine F8_x8_cycle ?_)
    | (with_reducible refine F8_x8_clear ?_)
    | (with_reducible refine F8_x9_store ?_ _ _)
    | (with_reducible refine F8_x9_cycle ?_)
    | (with_reducible refine F8_x9_clear ?_)
    | (with_reducible refine F8_x3_store ?_ _ _)
    | (with_reducible refine F8_x10_empty ?_)
    | (with_reducible refine F8_x10_store ?_ _ _)
    | (with_reducible refine F8_x10_done ?_)
    | (with_reducible refine F8_x10_cycle ?_)
    | (with_reducible refine F8_x10_read ?_ _ _)
    | (with_reducible refine F8_x10_page ?_ _ _)
    | (with_reducible refine F8_x10_stores ?_ _ _)
    | (with_reducible refine F8_x10_clear ?_)
    | (with_reducible refine F8_x2_toPair ?_ _ _)
    | (with_reducible refine F8_x2_toStack ?_ _)
    | (with_reducible refine F8_x2_load ?_ _)
    | (with_reducible refine F8_x2_store ?_ _ _)
    | (with_reducible refine F8_x2_push ?_ _)
    | (with_reducible refine F8_x2_pop ?_)
    | (with_reducible refine F8_x2_go ?_ _)
    | (with_reducible refine F8_x2_pushPlace ?_)
    | (with_reducible refine F8_x2_popPlace ?_)
    | (with_reducible refine F8_x2_set ?_ _ _)
    | (with_reducible refine F8_x2_by ?_ _ _)
    | (with_reducible refine F8_x2_added ?_ _ _ _)
    | (with_reducible refine Fr_k ?_ (by decide))
    | (with_reducible refine Fr_0 ?_ (by decide))
    | with_reducible refine Fr_iter' ?_ ?_
    | with_reducible refine Fr_ite ?_ ?_
    | with_reducible refine FrP_ite ?_ ?_
    | with_reducible refine Fr_ltS ?_ ?_
    | with_reducible refine Fr_ltP ?_ ?_
    | with_reducible refine Fr_lti ?_
    | with_reducible refine FrP_ltS ?_ ?_
    | with_reducible refine FrP_ltP ?_ ?_
    | with_reducible refine FrP_lti ?_
    | with_reducible refine FrP_i ?_)
theorem F8_x2_takenOn {c : Int32} {s : Sg} (h : Fr 8 c s) (x1 x2 : Int32) : FrP 8 c (x2_takenOn s x1 x2) := by
  unfold x2_takenOn
  repeat' (first
    | assumption
    | (intro i s h)
    | (intro v s h)
    | (intro s h)
    | (intro x)
    | (with_reducible refine F8_x4_store ?_ _ _)
    | (with_reducible refine F8_x4_clear ?_)
    | (with_reducible refine F8_x11_clear ?_)
    | (with_reducible refine F8_x5_store ?_ _ _)
    | (with_reducible refine F8_x5_cycle ?_)
    | (with_reducible refine F8_x5_clear ?_)
    | (with_reducible refine F8_x6_load ?_ _)
    | (with_reducible refine F8_x6_store ?_ _ _)
    | (with_reducible refine F8_x6_receive ?_)
    | (with_reducible refine F8_x6_cycle ?_)
    | (with_reducible refine F8_x6_add ?_ _)
    | (with_reducible refine F8_x6_clear ?_)
    | (with_reducible refine F8_x7_store ?_ _ _)
    | (with_reducible refine F8_x7_cycle ?_)
    | (with_reducible refine F8_x7_clear ?_)
    | (with_reducible refine F8_x8_store ?_ _ _)
    | (with_reducible refine F8_x8_shorter ?_)
    | (with_reducible refine F8_x8_cycle ?_)
    | (with_reducible refine F8_x8_clear ?_)
    | (with_reducible refine F8_x9_store ?_ _ _)
    | (with_reducible refine F8_x9_cycle ?_)
    | (with_reducible refine F8_x9_clear ?_)
    | (with_reducible refine F8_x3_store ?_ _ _)
    | (with_reducible refine F8_x10_empty ?_)
    | (with_reducible refine F8_x10_store ?_ _ _)
    | (with_reducible refine F8_x10_done ?_)
    | (with_reducible refine F8_x10_cycle ?_)
    | (with_reducible refine F8_x10_read ?_ _ _)
    | (with_reducible refine F8_x10_page ?_ _ _)
    | (with_reducible refine F8_x10_stores ?_ _ _)
    | (with_reducible refine F8_x10_clear ?_)
    | (with_reducible refine F8_x2_toPair ?_ _ _)
    | (with_reducible refine F8_x2_toStack ?_ _)
    | (with_reducible refine F8_x2_load ?_ _)
    | (with_reducible refine F8_x2_store ?_ _ _)
    | (with_reducible refine F8_x2_push ?_ _)
    | (with_reducible refine F8_x2_pop ?_)
    | (with_reducible refine F8_x2_go ?_ _)
    | (with_reducible refine F8_x2_pushPlace ?_)
    | (with_reducible refine F8_x2_popPlace ?_)
    | (with_reducible refine F8_x2_set ?_ _ _)
    | (with_reducible refine F8_x2_by ?_ _ _)
    | (with_reducible refine F8_x2_added ?_ _ _ _)
    | (with_reducible refine F8_x2_taken ?_ _ _ _)
    | (with_reducible refine Fr_k ?_ (by decide))
    | (with_reducible refine Fr_0 ?_ (by decide))
    | with_reducible refine Fr_iter' ?_ ?_
    | with_reducible refine Fr_ite ?_ ?_
    | with_reducible refine FrP_ite ?_ ?_
    | with_reducible refine Fr_ltS ?_ ?_
    | with_reducible refine Fr_ltP ?_ ?_
    | with_reducible refine Fr_lti ?_
    | with_reducible refine FrP_ltS ?_ ?_
    | with_reducible refine FrP_ltP ?_ ?_
    | with_reducible refine FrP_lti ?_
    | with_reducible refine FrP_i ?_)
theorem F8_x2_logic {c : Int32} {s : Sg} (h : Fr 8 c s) (x1 : Int32) : FrP 8 c (x2_logic s x1) := by
  unfold x2_logic
  repeat' (first
    | assumption
    | (intro i s h)
    | (intro v s h)
    | (intro s h)
    | (intro x)
    | (with_reducible refine F8_x4_store ?_ _ _)
    | (with_reducible refine F8_x4_clear ?_)
    | (with_reducible refine F8_x11_clear ?_)
    | (with_reducible refine F8_x5_store ?_ _ _)
    | (with_reducible refine F8_x5_cycle ?_)
    | (with_reducible refine F8_x5_clear ?_)
    | (with_reducible refine F8_x6_load ?_ _)
    | (with_reducible refine F8_x6_store ?_ _ _)
    | (with_reducible refine F8_x6_receive ?_)
    | (with_reducible refine F8_x6_cycle ?_)
    | (with_reducible refine F8_x6_add ?_ _)
    | (with_reducible refine F8_x6_clear ?_)
    | (with_reducible refine F8_x7_store ?_ _ _)
    | (with_reducible refine F8_x7_cycle ?_)
    | (with_reducible refine F8_x7_clear ?_)
    | (with_reducible refine F8_x8_store ?_ _ _)
    | (with_reducible refine F8_x8_shorter ?_)
    | (with_reducible refine F8_x8_cycle ?_)
    | (with_reducible refine F8_x8_clear ?_)
    | (with_reducible refine F8_x9_store ?_ _ _)
    | (with_reducible refine F8_x9_cycle ?_)
    | (with_reducible refine F8_x9_clear ?_)
    | (with_reducible refine F8_x3_store ?_ _ _)
    | (with_reducible refine F8_x10_empty ?_)
    | (with_reducible refine F8_x10_store ?_ _ _)
    | (with_reducible refine F8_x10_done ?_)
    | (with_reducible refine F8_x10_cycle ?_)
    | (with_reducible refine F8_x10_read ?_ _ _)
    | (with_reducible refine F8_x10_page ?_ _ _)
    | (with_reducible refine F8_x10_stores ?_ _ _)
    | (with_reducible refine F8_x10_clear ?_)
    | (with_reducible refine F8_x2_toPair ?_ _ _)
    | (with_reducible refine F8_x2_toStack ?_ _)
    | (with_reducible refine F8_x2_load ?_ _)
    | (with_reducible refine F8_x2_store ?_ _ _)
    | (with_reducible refine F8_x2_push ?_ _)
    | (with_reducible refine F8_x2_pop ?_)
    | (with_reducible refine F8_x2_go ?_ _)
    | (with_reducible refine F8_x2_pushPlace ?_)
    | (with_reducible refine F8_x2_popPlace ?_)
    | (with_reducible refine F8_x2_set ?_ _ _)
    | (with_reducible refine F8_x2_by ?_ _ _)
    | (with_reducible refine F8_x2_added ?_ _ _ _)
    | (with_reducible refine F8_x2_taken ?_ _ _ _)
    | (with_reducible refine F8_x2_takenOn ?_ _ _)
    | (with_reducible refine Fr_k ?_ (by decide))
    | (with_reducible refine Fr_0 ?_ (by decide))
    | with_reducible refine Fr_iter' ?_ ?_
    | with_reducible refine Fr_ite ?_ ?_
    | with_reducible refine FrP_ite ?_ ?_
    | with_reducible refine Fr_ltS ?_ ?_
    | with_reducible refine Fr_ltP ?_ ?_
    | with_reducible refine Fr_lti ?_
    | with_reducible refine FrP_ltS ?_ ?_
    | with_reducible refine FrP_ltP ?_ ?_
    | with_reducible refine FrP_lti ?_
    | with_reducible refine FrP_i ?_)
theorem F8_x2_product {c : Int32} {s : Sg} (h : Fr 8 c s) (x1 x2 : Int32) : Fr 8 c (x2_product s x1 x2) := by
  unfold x2_product
  repeat' (first
    | assumption
    | (intro i s h)
    | (intro v s h)
    | (intro s h)
    | (intro x)
    | (with_reducible refine F8_x4_store ?_ _ _)
    | (with_reducible refine F8_x4_clear ?_)
    | (with_reducible refine F8_x11_clear ?_)
    | (with_reducible refine F8_x5_store ?_ _ _)
    | (with_reducible refine F8_x5_cycle ?_)
    | (with_reducible refine F8_x5_clear ?_)
    | (with_reducible refine F8_x6_load ?_ _)
    | (with_reducible refine F8_x6_store ?_ _ _)
    | (with_reducible refine F8_x6_receive ?_)
    | (with_reducible refine F8_x6_cycle ?_)
    | (with_reducible refine F8_x6_add ?_ _)
    | (with_reducible refine F8_x6_clear ?_)
    | (with_reducible refine F8_x7_store ?_ _ _)
    | (with_reducible refine F8_x7_cycle ?_)
    | (with_reducible refine F8_x7_clear ?_)
    | (with_reducible refine F8_x8_store ?_ _ _)
    | (with_reducible refine F8_x8_shorter ?_)
    | (with_reducible refine F8_x8_cycle ?_)
    | (with_reducible refine F8_x8_clear ?_)
    | (with_reducible refine F8_x9_store ?_ _ _)
    | (with_reducible refine F8_x9_cycle ?_)
    | (with_reducible refine F8_x9_clear ?_)
    | (with_reducible refine F8_x3_store ?_ _ _)
    | (with_reducible refine F8_x10_empty ?_)
    | (with_reducible refine F8_x10_store ?_ _ _)
    | (with_reducible refine F8_x10_done ?_)
    | (with_reducible refine F8_x10_cycle ?_)
    | (with_reducible refine F8_x10_read ?_ _ _)
    | (with_reducible refine F8_x10_page ?_ _ _)
    | (with_reducible refine F8_x10_stores ?_ _ _)
    | (with_reducible refine F8_x10_clear ?_)
    | (with_reducible refine F8_x2_toPair ?_ _ _)
    | (with_reducible refine F8_x2_toStack ?_ _)
    | (with_reducible refine F8_x2_load ?_ _)
    | (with_reducible refine F8_x2_store ?_ _ _)
    | (with_reducible refine F8_x2_push ?_ _)
    | (with_reducible refine F8_x2_pop ?_)
    | (with_reducible refine F8_x2_go ?_ _)
    | (with_reducible refine F8_x2_pushPlace ?_)
    | (with_reducible refine F8_x2_popPlace ?_)
    | (with_reducible refine F8_x2_set ?_ _ _)
    | (with_reducible refine F8_x2_by ?_ _ _)
    | (with_reducible refine F8_x2_added ?_ _ _ _)
    | (with_reducible refine F8_x2_taken ?_ _ _ _)
    | (with_reducible refine F8_x2_takenOn ?_ _ _)
    | (with_reducible refine F8_x2_logic ?_ _)
    | (with_reducible refine Fr_k ?_ (by decide))
    | (with_reducible refine Fr_0 ?_ (by decide))
    | with_reducible refine Fr_iter' ?_ ?_
    | with_reducible refine Fr_ite ?_ ?_
    | with_reducible refine FrP_ite ?_ ?_
    | with_reducible refine Fr_ltS ?_ ?_
    | with_reducible refine Fr_ltP ?_ ?_
    | with_reducible refine Fr_lti ?_
    | with_reducible refine FrP_ltS ?_ ?_
    | with_reducible refine FrP_ltP ?_ ?_
    | with_reducible refine FrP_lti ?_
    | with_reducible refine FrP_i ?_)
theorem F8_x2_next {c : Int32} {s : Sg} (h : Fr 8 c s)  : FrP 8 c (x2_next s ) := by
  unfold x2_next
  repeat' (first
    | assumption
    | (intro i s h)
    | (intro v s h)
    | (intro s h)
    | (intro x)
    | (with_reducible refine F8_x4_store ?_ _ _)
    | (with_reducible refine F8_x4_clear ?_)
    | (with_reducible refine F8_x11_clear ?_)
    | (with_reducible refine F8_x5_store ?_ _ _)
    | (with_reducible refine F8_x5_cycle ?_)
    | (with_reducible refine F8_x5_clear ?_)
    | (with_reducible refine F8_x6_load ?_ _)
    | (with_reducible refine F8_x6_store ?_ _ _)
    | (with_reducible refine F8_x6_receive ?_)
    | (with_reducible refine F8_x6_cycle ?_)
    | (with_reducible refine F8_x6_add ?_ _)
    | (with_reducible refine F8_x6_clear ?_)
    | (with_reducible refine F8_x7_store ?_ _ _)
    | (with_reducible refine F8_x7_cycle ?_)
    | (with_reducible refine F8_x7_clear ?_)
    | (with_reducible refine F8_x8_store ?_ _ _)
    | (with_reducible refine F8_x8_shorter ?_)
    | (with_reducible refine F8_x8_cycle ?_)
    | (with_reducible refine F8_x8_clear ?_)
    | (with_reducible refine F8_x9_store ?_ _ _)
    | (with_reducible refine F8_x9_cycle ?_)
    | (with_reducible refine F8_x9_clear ?_)
    | (with_reducible refine F8_x3_store ?_ _ _)
    | (with_reducible refine F8_x10_empty ?_)
    | (with_reducible refine F8_x10_store ?_ _ _)
    | (with_reducible refine F8_x10_done ?_)
    | (with_reducible refine F8_x10_cycle ?_)
    | (with_reducible refine F8_x10_read ?_ _ _)
    | (with_reducible refine F8_x10_page ?_ _ _)
    | (with_reducible refine F8_x10_stores ?_ _ _)
    | (with_reducible refine F8_x10_clear ?_)
    | (with_reducible refine F8_x2_toPair ?_ _ _)
    | (with_reducible refine F8_x2_toStack ?_ _)
    | (with_reducible refine F8_x2_load ?_ _)
    | (with_reducible refine F8_x2_store ?_ _ _)
    | (with_reducible refine F8_x2_push ?_ _)
    | (with_reducible refine F8_x2_pop ?_)
    | (with_reducible refine F8_x2_go ?_ _)
    | (with_reducible refine F8_x2_pushPlace ?_)
    | (with_reducible refine F8_x2_popPlace ?_)
    | (with_reducible refine F8_x2_set ?_ _ _)
    | (with_reducible refine F8_x2_by ?_ _ _)
    | (with_reducible refine F8_x2_added ?_ _ _ _)
    | (with_reducible refine F8_x2_taken ?_ _ _ _)
    | (with_reducible refine F8_x2_takenOn ?_ _ _)
    | (with_reducible refine F8_x2_logic ?_ _)
    | (with_reducible refine F8_x2_product ?_ _ _)
    | (with_reducible refine Fr_k ?_ (by decide))
    | (with_reducible refine Fr_0 ?_ (by decide))
    | with_reducible refine Fr_iter' ?_ ?_
    | with_reducible refine Fr_ite ?_ ?_
    | with_reducible refine FrP_ite ?_ ?_
    | with_reducible refine Fr_ltS ?_ ?_
    | with_reducible refine Fr_ltP ?_ ?_
    | with_reducible refine Fr_lti ?_
    | with_reducible refine FrP_ltS ?_ ?_
    | with_reducible refine FrP_ltP ?_ ?_
    | with_reducible refine FrP_lti ?_
    | with_reducible refine FrP_i ?_)
theorem F8_x2_skip {c : Int32} {s : Sg} (h : Fr 8 c s) (x1 : Int32) : FrP 8 c (x2_skip s x1) := by
  unfold x2_skip
  repeat' (first
    | assumption
    | (intro i s h)
    | (intro v s h)
    | (intro s h)
    | (intro x)
    | (with_reducible refine F8_x4_store ?_ _ _)
    | (with_reducible refine F8_x4_clear ?_)
    | (with_reducible refine F8_x11_clear ?_)
    | (with_reducible refine F8_x5_store ?_ _ _)
    | (with_reducible refine F8_x5_cycle ?_)
    | (with_reducible refine F8_x5_clear ?_)
    | (with_reducible refine F8_x6_load ?_ _)
    | (with_reducible refine F8_x6_store ?_ _ _)
    | (with_reducible refine F8_x6_receive ?_)
    | (with_reducible refine F8_x6_cycle ?_)
    | (with_reducible refine F8_x6_add ?_ _)
    | (with_reducible refine F8_x6_clear ?_)
    | (with_reducible refine F8_x7_store ?_ _ _)
    | (with_reducible refine F8_x7_cycle ?_)
    | (with_reducible refine F8_x7_clear ?_)
    | (with_reducible refine F8_x8_store ?_ _ _)
    | (with_reducible refine F8_x8_shorter ?_)
    | (with_reducible refine F8_x8_cycle ?_)
    | (with_reducible refine F8_x8_clear ?_)
    | (with_reducible refine F8_x9_store ?_ _ _)
    | (with_reducible refine F8_x9_cycle ?_)
    | (with_reducible refine F8_x9_clear ?_)
    | (with_reducible refine F8_x3_store ?_ _ _)
    | (with_reducible refine F8_x10_empty ?_)
    | (with_reducible refine F8_x10_store ?_ _ _)
    | (with_reducible refine F8_x10_done ?_)
    | (with_reducible refine F8_x10_cycle ?_)
    | (with_reducible refine F8_x10_read ?_ _ _)
    | (with_reducible refine F8_x10_page ?_ _ _)
    | (with_reducible refine F8_x10_stores ?_ _ _)
    | (with_reducible refine F8_x10_clear ?_)
    | (with_reducible refine F8_x2_toPair ?_ _ _)
    | (with_reducible refine F8_x2_toStack ?_ _)
    | (with_reducible refine F8_x2_load ?_ _)
    | (with_reducible refine F8_x2_store ?_ _ _)
    | (with_reducible refine F8_x2_push ?_ _)
    | (with_reducible refine F8_x2_pop ?_)
    | (with_reducible refine F8_x2_go ?_ _)
    | (with_reducible refine F8_x2_pushPlace ?_)
    | (with_reducible refine F8_x2_popPlace ?_)
    | (with_reducible refine F8_x2_set ?_ _ _)
    | (with_reducible refine F8_x2_by ?_ _ _)
    | (with_reducible refine F8_x2_added ?_ _ _ _)
    | (with_reducible refine F8_x2_taken ?_ _ _ _)
    | (with_reducible refine F8_x2_takenOn ?_ _ _)
    | (with_reducible refine F8_x2_logic ?_ _)
    | (with_reducible refine F8_x2_product ?_ _ _)
    | (with_reducible refine F8_x2_next ?_)
    | (with_reducible refine Fr_k ?_ (by decide))
    | (with_reducible refine Fr_0 ?_ (by decide))
    | with_reducible refine Fr_iter' ?_ ?_
    | with_reducible refine Fr_ite ?_ ?_
    | with_reducible refine FrP_ite ?_ ?_
    | with_reducible refine Fr_ltS ?_ ?_
    | with_reducible refine Fr_ltP ?_ ?_
    | with_reducible refine Fr_lti ?_
    | with_reducible refine FrP_ltS ?_ ?_
    | with_reducible refine FrP_ltP ?_ ?_
    | with_reducible refine FrP_lti ?_
    | with_reducible refine FrP_i ?_)
theorem F8_x2_constant {c : Int32} {s : Sg} (h : Fr 8 c s) (x1 : Int32) : FrP 8 c (x2_constant s x1) := by
  unfold x2_constant
  repeat' (first
    | assumption
    | (intro i s h)
    | (intro v s h)
    | (intro s h)
    | (intro x)
    | (with_reducible refine F8_x4_store ?_ _ _)
    | (with_reducible refine F8_x4_clear ?_)
    | (with_reducible refine F8_x11_clear ?_)
    | (with_reducible refine F8_x5_store ?_ _ _)
    | (with_reducible refine F8_x5_cycle ?_)
    | (with_reducible refine F8_x5_clear ?_)
    | (with_reducible refine F8_x6_load ?_ _)
    | (with_reducible refine F8_x6_store ?_ _ _)
    | (with_reducible refine F8_x6_receive ?_)
    | (with_reducible refine F8_x6_cycle ?_)
    | (with_reducible refine F8_x6_add ?_ _)
    | (with_reducible refine F8_x6_clear ?_)
    | (with_reducible refine F8_x7_store ?_ _ _)
    | (with_reducible refine F8_x7_cycle ?_)
    | (with_reducible refine F8_x7_clear ?_)
    | (with_reducible refine F8_x8_store ?_ _ _)
    | (with_reducible refine F8_x8_shorter ?_)
    | (with_reducible refine F8_x8_cycle ?_)
    | (with_reducible refine F8_x8_clear ?_)
    | (with_reducible refine F8_x9_store ?_ _ _)
    | (with_reducible refine F8_x9_cycle ?_)
    | (with_reducible refine F8_x9_clear ?_)
    | (with_reducible refine F8_x3_store ?_ _ _)
    | (with_reducible refine F8_x10_empty ?_)
    | (with_reducible refine F8_x10_store ?_ _ _)
    | (with_reducible refine F8_x10_done ?_)
    | (with_reducible refine F8_x10_cycle ?_)
    | (with_reducible refine F8_x10_read ?_ _ _)
    | (with_reducible refine F8_x10_page ?_ _ _)
    | (with_reducible refine F8_x10_stores ?_ _ _)
    | (with_reducible refine F8_x10_clear ?_)
    | (with_reducible refine F8_x2_toPair ?_ _ _)
    | (with_reducible refine F8_x2_toStack ?_ _)
    | (with_reducible refine F8_x2_load ?_ _)
    | (with_reducible refine F8_x2_store ?_ _ _)
    | (with_reducible refine F8_x2_push ?_ _)
    | (with_reducible refine F8_x2_pop ?_)
    | (with_reducible refine F8_x2_go ?_ _)
    | (with_reducible refine F8_x2_pushPlace ?_)
    | (with_reducible refine F8_x2_popPlace ?_)
    | (with_reducible refine F8_x2_set ?_ _ _)
    | (with_reducible refine F8_x2_by ?_ _ _)
    | (with_reducible refine F8_x2_added ?_ _ _ _)
    | (with_reducible refine F8_x2_taken ?_ _ _ _)
    | (with_reducible refine F8_x2_takenOn ?_ _ _)
    | (with_reducible refine F8_x2_logic ?_ _)
    | (with_reducible refine F8_x2_product ?_ _ _)
    | (with_reducible refine F8_x2_next ?_)
    | (with_reducible refine F8_x2_skip ?_ _)
    | (with_reducible refine Fr_k ?_ (by decide))
    | (with_reducible refine Fr_0 ?_ (by decide))
    | with_reducible refine Fr_iter' ?_ ?_
    | with_reducible refine Fr_ite ?_ ?_
    | with_reducible refine FrP_ite ?_ ?_
    | with_reducible refine Fr_ltS ?_ ?_
    | with_reducible refine Fr_ltP ?_ ?_
    | with_reducible refine Fr_lti ?_
    | with_reducible refine FrP_ltS ?_ ?_
    | with_reducible refine FrP_ltP ?_ ?_
    | with_reducible refine FrP_lti ?_
    | with_reducible refine FrP_i ?_)
theorem F8_x2_pairs {c : Int32} {s : Sg} (h : Fr 8 c s) (x1 : Int32) : FrP 8 c (x2_pairs s x1) := by
  unfold x2_pairs
  repeat' (first
    | assumption
    | (intro i s h)
    | (intro v s h)
    | (intro s h)
    | (intro x)
    | (with_reducible refine F8_x4_store ?_ _ _)
    | (with_reducible refine F8_x4_clear ?_)
    | (with_reducible refine F8_x11_clear ?_)
    | (with_reducible refine F8_x5_store ?_ _ _)
    | (with_reducible refine F8_x5_cycle ?_)
    | (with_reducible refine F8_x5_clear ?_)
    | (with_reducible refine F8_x6_load ?_ _)
    | (with_reducible refine F8_x6_store ?_ _ _)
    | (with_reducible refine F8_x6_receive ?_)
    | (with_reducible refine F8_x6_cycle ?_)
    | (with_reducible refine F8_x6_add ?_ _)
    | (with_reducible refine F8_x6_clear ?_)
    | (with_reducible refine F8_x7_store ?_ _ _)
    | (with_reducible refine F8_x7_cycle ?_)
    | (with_reducible refine F8_x7_clear ?_)
    | (with_reducible refine F8_x8_store ?_ _ _)
    | (with_reducible refine F8_x8_shorter ?_)
    | (with_reducible refine F8_x8_cycle ?_)
    | (with_reducible refine F8_x8_clear ?_)
    | (with_reducible refine F8_x9_store ?_ _ _)
    | (with_reducible refine F8_x9_cycle ?_)
    | (with_reducible refine F8_x9_clear ?_)
    | (with_reducible refine F8_x3_store ?_ _ _)
    | (with_reducible refine F8_x10_empty ?_)
    | (with_reducible refine F8_x10_store ?_ _ _)
    | (with_reducible refine F8_x10_done ?_)
    | (with_reducible refine F8_x10_cycle ?_)
    | (with_reducible refine F8_x10_read ?_ _ _)
    | (with_reducible refine F8_x10_page ?_ _ _)
    | (with_reducible refine F8_x10_stores ?_ _ _)
    | (with_reducible refine F8_x10_clear ?_)
    | (with_reducible refine F8_x2_toPair ?_ _ _)
    | (with_reducible refine F8_x2_toStack ?_ _)
    | (with_reducible refine F8_x2_load ?_ _)
    | (with_reducible refine F8_x2_store ?_ _ _)
    | (with_reducible refine F8_x2_push ?_ _)
    | (with_reducible refine F8_x2_pop ?_)
    | (with_reducible refine F8_x2_go ?_ _)
    | (with_reducible refine F8_x2_pushPlace ?_)
    | (with_reducible refine F8_x2_popPlace ?_)
    | (with_reducible refine F8_x2_set ?_ _ _)
    | (with_reducible refine F8_x2_by ?_ _ _)
    | (with_reducible refine F8_x2_added ?_ _ _ _)
    | (with_reducible refine F8_x2_taken ?_ _ _ _)
    | (with_reducible refine F8_x2_takenOn ?_ _ _)
    | (with_reducible refine F8_x2_logic ?_ _)
    | (with_reducible refine F8_x2_product ?_ _ _)
    | (with_reducible refine F8_x2_next ?_)
    | (with_reducible refine F8_x2_skip ?_ _)
    | (with_reducible refine F8_x2_constant ?_ _)
    | (with_reducible refine Fr_k ?_ (by decide))
    | (with_reducible refine Fr_0 ?_ (by decide))
    | with_reducible refine Fr_iter' ?_ ?_
    | with_reducible refine Fr_ite ?_ ?_
    | with_reducible refine FrP_ite ?_ ?_
    | with_reducible refine Fr_ltS ?_ ?_
    | with_reducible refine Fr_ltP ?_ ?_
    | with_reducible refine Fr_lti ?_
    | with_reducible refine FrP_ltS ?_ ?_
    | with_reducible refine FrP_ltP ?_ ?_
    | with_reducible refine FrP_lti ?_
    | with_reducible refine FrP_i ?_)
theorem F8_x2_twoRegisters {c : Int32} {s : Sg} (h : Fr 8 c s) (x1 : Int32) : FrP 8 c (x2_twoRegisters s x1) := by
  unfold x2_twoRegisters
  repeat' (first
    | assumption
    | (intro i s h)
    | (intro v s h)
    | (intro s h)
    | (intro x)
    | (with_reducible refine F8_x4_store ?_ _ _)
    | (with_reducible refine F8_x4_clear ?_)
    | (with_reducible refine F8_x11_clear ?_)
    | (with_reducible refine F8_x5_store ?_ _ _)
    | (with_reducible refine F8_x5_cycle ?_)
    | (with_reducible refine F8_x5_clear ?_)
    | (with_reducible refine F8_x6_load ?_ _)
    | (with_reducible refine F8_x6_store ?_ _ _)
    | (with_reducible refine F8_x6_receive ?_)
    | (with_reducible refine F8_x6_cycle ?_)
    | (with_reducible refine F8_x6_add ?_ _)
    | (with_reducible refine F8_x6_clear ?_)
    | (with_reducible refine F8_x7_store ?_ _ _)
    | (with_reducible refine F8_x7_cycle ?_)
    | (with_reducible refine F8_x7_clear ?_)
    | (with_reducible refine F8_x8_store ?_ _ _)
    | (with_reducible refine F8_x8_shorter ?_)
    | (with_reducible refine F8_x8_cycle ?_)
    | (with_reducible refine F8_x8_clear ?_)
    | (with_reducible refine F8_x9_store ?_ _ _)
    | (with_reducible refine F8_x9_cycle ?_)
    | (with_reducible refine F8_x9_clear ?_)
    | (with_reducible refine F8_x3_store ?_ _ _)
    | (with_reducible refine F8_x10_empty ?_)
    | (with_reducible refine F8_x10_store ?_ _ _)
    | (with_reducible refine F8_x10_done ?_)
    | (with_reducible refine F8_x10_cycle ?_)
    | (with_reducible refine F8_x10_read ?_ _ _)
    | (with_reducible refine F8_x10_page ?_ _ _)
    | (with_reducible refine F8_x10_stores ?_ _ _)
    | (with_reducible refine F8_x10_clear ?_)
    | (with_reducible refine F8_x2_toPair ?_ _ _)
    | (with_reducible refine F8_x2_toStack ?_ _)
    | (with_reducible refine F8_x2_load ?_ _)
    | (with_reducible refine F8_x2_store ?_ _ _)
    | (with_reducible refine F8_x2_push ?_ _)
    | (with_reducible refine F8_x2_pop ?_)
    | (with_reducible refine F8_x2_go ?_ _)
    | (with_reducible refine F8_x2_pushPlace ?_)
    | (with_reducible refine F8_x2_popPlace ?_)
    | (with_reducible refine F8_x2_set ?_ _ _)
    | (with_reducible refine F8_x2_by ?_ _ _)
    | (with_reducible refine F8_x2_added ?_ _ _ _)
    | (with_reducible refine F8_x2_taken ?_ _ _ _)
    | (with_reducible refine F8_x2_takenOn ?_ _ _)
    | (with_reducible refine F8_x2_logic ?_ _)
    | (with_reducible refine F8_x2_product ?_ _ _)
    | (with_reducible refine F8_x2_next ?_)
    | (with_reducible refine F8_x2_skip ?_ _)
    | (with_reducible refine F8_x2_constant ?_ _)
    | (with_reducible refine F8_x2_pairs ?_ _)
    | (with_reducible refine Fr_k ?_ (by decide))
    | (with_reducible refine Fr_0 ?_ (by decide))
    | with_reducible refine Fr_iter' ?_ ?_
    | with_reducible refine Fr_ite ?_ ?_
    | with_reducible refine FrP_ite ?_ ?_
    | with_reducible refine Fr_ltS ?_ ?_
    | with_reducible refine Fr_ltP ?_ ?_
    | with_reducible refine Fr_lti ?_
    | with_reducible refine FrP_ltS ?_ ?_
    | with_reducible refine FrP_ltP ?_ ?_
    | with_reducible refine FrP_lti ?_
    | with_reducible refine FrP_i ?_)
theorem F8_x2_move {c : Int32} {s : Sg} (h : Fr 8 c s) (x1 x2 : Int32) : Fr 8 c (x2_move s x1 x2) := by
  unfold x2_move
  repeat' (first
    | assumption
    | (intro i s h)
    | (intro v s h)
    | (intro s h)
    | (intro x)
    | (with_reducible refine F8_x4_store ?_ _ _)
    | (with_reducible refine F8_x4_clear ?_)
    | (with_reducible refine F8_x11_clear ?_)
    | (with_reducible refine F8_x5_store ?_ _ _)
    | (with_reducible refine F8_x5_cycle ?_)
    | (with_reducible refine F8_x5_clear ?_)
    | (with_reducible refine F8_x6_load ?_ _)
    | (with_reducible refine F8_x6_store ?_ _ _)
    | (with_reducible refine F8_x6_receive ?_)
    | (with_reducible refine F8_x6_cycle ?_)
    | (with_reducible refine F8_x6_add ?_ _)
    | (with_reducible refine F8_x6_clear ?_)
    | (with_reducible refine F8_x7_store ?_ _ _)
    | (with_reducible refine F8_x7_cycle ?_)
    | (with_reducible refine F8_x7_clear ?_)
    | (with_reducible refine F8_x8_store ?_ _ _)
    | (with_reducible refine F8_x8_shorter ?_)
    | (with_reducible refine F8_x8_cycle ?_)
    | (with_reducible refine F8_x8_clear ?_)
    | (with_reducible refine F8_x9_store ?_ _ _)
    | (with_reducible refine F8_x9_cycle ?_)
    | (with_reducible refine F8_x9_clear ?_)
    | (with_reducible refine F8_x3_store ?_ _ _)
    | (with_reducible refine F8_x10_empty ?_)
    | (with_reducible refine F8_x10_store ?_ _ _)
    | (with_reducible refine F8_x10_done ?_)
    | (with_reducible refine F8_x10_cycle ?_)
    | (with_reducible refine F8_x10_read ?_ _ _)
    | (with_reducible refine F8_x10_page ?_ _ _)
    | (with_reducible refine F8_x10_stores ?_ _ _)
    | (with_reducible refine F8_x10_clear ?_)
    | (with_reducible refine F8_x2_toPair ?_ _ _)
    | (with_reducible refine F8_x2_toStack ?_ _)
    | (with_reducible refine F8_x2_load ?_ _)
    | (with_reducible refine F8_x2_store ?_ _ _)
    | (with_reducible refine F8_x2_push ?_ _)
    | (with_reducible refine F8_x2_pop ?_)
    | (with_reducible refine F8_x2_go ?_ _)
    | (with_reducible refine F8_x2_pushPlace ?_)
    | (with_reducible refine F8_x2_popPlace ?_)
    | (with_reducible refine F8_x2_set ?_ _ _)
    | (with_reducible refine F8_x2_by ?_ _ _)
    | (with_reducible refine F8_x2_added ?_ _ _ _)
    | (with_reducible refine F8_x2_taken ?_ _ _ _)
    | (with_reducible refine F8_x2_takenOn ?_ _ _)
    | (with_reducible refine F8_x2_logic ?_ _)
    | (with_reducible refine F8_x2_product ?_ _ _)
    | (with_reducible refine F8_x2_next ?_)
    | (with_reducible refine F8_x2_skip ?_ _)
    | (with_reducible refine F8_x2_constant ?_ _)
    | (with_reducible refine F8_x2_pairs ?_ _)
    | (with_reducible refine F8_x2_twoRegisters ?_ _)
    | (with_reducible refine Fr_k ?_ (by decide))
    | (with_reducible refine Fr_0 ?_ (by decide))
    | with_reducible refine Fr_iter' ?_ ?_
    | with_reducible refine Fr_ite ?_ ?_
    | with_reducible refine FrP_ite ?_ ?_
    | with_reducible refine Fr_ltS ?_ ?_
    | with_reducible refine Fr_ltP ?_ ?_
    | with_reducible refine Fr_lti ?_
    | with_reducible refine FrP_ltS ?_ ?_
    | with_reducible refine FrP_ltP ?_ ?_
    | with_reducible refine FrP_lti ?_
    | with_reducible refine FrP_i ?_)
theorem F8_x2_displaced {c : Int32} {s : Sg} (h : Fr 8 c s) (x1 : Int32) : FrP 8 c (x2_displaced s x1) := by
  unfold x2_displaced
  repeat' (first
    | assumption
    | (intro i s h)
    | (intro v s h)
    | (intro s h)
    | (intro x)
    | (with_reducible refine F8_x4_store ?_ _ _)
    | (with_reducible refine F8_x4_clear ?_)
    | (with_reducible refine F8_x11_clear ?_)
    | (with_reducible refine F8_x5_store ?_ _ _)
    | (with_reducible refine F8_x5_cycle ?_)
    | (with_reducible refine F8_x5_clear ?_)
    | (with_reducible refine F8_x6_load ?_ _)
    | (with_reducible refine F8_x6_store ?_ _ _)
    | (with_reducible refine F8_x6_receive ?_)
    | (with_reducible refine F8_x6_cycle ?_)
    | (with_reducible refine F8_x6_add ?_ _)
    | (with_reducible refine F8_x6_clear ?_)
    | (with_reducible refine F8_x7_store ?_ _ _)
    | (with_reducible refine F8_x7_cycle ?_)
    | (with_reducible refine F8_x7_clear ?_)
    | (with_reducible refine F8_x8_store ?_ _ _)
    | (with_reducible refine F8_x8_shorter ?_)
    | (with_reducible refine F8_x8_cycle ?_)
    | (with_reducible refine F8_x8_clear ?_)
    | (with_reducible refine F8_x9_store ?_ _ _)
    | (with_reducible refine F8_x9_cycle ?_)
    | (with_reducible refine F8_x9_clear ?_)
    | (with_reducible refine F8_x3_store ?_ _ _)
    | (with_reducible refine F8_x10_empty ?_)
    | (with_reducible refine F8_x10_store ?_ _ _)
    | (with_reducible refine F8_x10_done ?_)
    | (with_reducible refine F8_x10_cycle ?_)
    | (with_reducible refine F8_x10_read ?_ _ _)
    | (with_reducible refine F8_x10_page ?_ _ _)
    | (with_reducible refine F8_x10_stores ?_ _ _)
    | (with_reducible refine F8_x10_clear ?_)
    | (with_reducible refine F8_x2_toPair ?_ _ _)
    | (with_reducible refine F8_x2_toStack ?_ _)
    | (with_reducible refine F8_x2_load ?_ _)
    | (with_reducible refine F8_x2_store ?_ _ _)
    | (with_reducible refine F8_x2_push ?_ _)
    | (with_reducible refine F8_x2_pop ?_)
    | (with_reducible refine F8_x2_go ?_ _)
    | (with_reducible refine F8_x2_pushPlace ?_)
    | (with_reducible refine F8_x2_popPlace ?_)
    | (with_reducible refine F8_x2_set ?_ _ _)
    | (with_reducible refine F8_x2_by ?_ _ _)
    | (with_reducible refine F8_x2_added ?_ _ _ _)
    | (with_reducible refine F8_x2_taken ?_ _ _ _)
    | (with_reducible refine F8_x2_takenOn ?_ _ _)
    | (with_reducible refine F8_x2_logic ?_ _)
    | (with_reducible refine F8_x2_product ?_ _ _)
    | (with_reducible refine F8_x2_next ?_)
    | (with_reducible refine F8_x2_skip ?_ _)
    | (with_reducible refine F8_x2_constant ?_ _)
    | (with_reducible refine F8_x2_pairs ?_ _)
    | (with_reducible refine F8_x2_twoRegisters ?_ _)
    | (with_reducible refine F8_x2_move ?_ _ _)
    | (with_reducible refine Fr_k ?_ (by decide))
    | (with_reducible refine Fr_0 ?_ (by decide))
    | with_reducible refine Fr_iter' ?_ ?_
    | with_reducible refine Fr_ite ?_ ?_
    | with_reducible refine FrP_ite ?_ ?_
    | with_reducible refine Fr_ltS ?_ ?_
    | with_reducible refine Fr_ltP ?_ ?_
    | with_reducible refine Fr_lti ?_
    | with_reducible refine FrP_ltS ?_ ?_
    | with_reducible refine FrP_ltP ?_ ?_
    | with_reducible refine FrP_lti ?_
    | with_reducible refine FrP_i ?_)
theorem F8_x2_moved {c : Int32} {s : Sg} (h : Fr 8 c s) (x1 x2 : Int32) : FrP 8 c (x2_moved s x1 x2) := by
  unfold x2_moved
  repeat' (first
    | assumption
    | (intro i s h)
    | (intro v s h)
    | (intro s h)
    | (intro x)
    | (with_reducible refine F8_x4_store ?_ _ _)
    | (with_reducible refine F8_x4_clear ?_)
    | (with_reducible refine F8_x11_clear ?_)
    | (with_reducible refine F8_x5_store ?_ _ _)
    | (with_reducible refine F8_x5_cycle ?_)
    | (with_reducible refine F8_x5_clear ?_)
    | (with_reducible refine F8_x6_load ?_ _)
    | (with_reducible refine F8_x6_store ?_ _ _)
    | (with_reducible refine F8_x6_receive ?_)
    | (with_reducible refine F8_x6_cycle ?_)
    | (with_reducible refine F8_x6_add ?_ _)
    | (with_reducible refine F8_x6_clear ?_)
    | (with_reducible refine F8_x7_store ?_ _ _)
    | (with_reducible refine F8_x7_cycle ?_)
    | (with_reducible refine F8_x7_clear ?_)
    | (with_reducible refine F8_x8_store ?_ _ _)
    | (with_reducible refine F8_x8_shorter ?_)
    | (with_reducible refine F8_x8_cycle ?_)
    | (with_reducible refine F8_x8_clear ?_)
    | (with_reducible refine F8_x9_store ?_ _ _)
    | (with_reducible refine F8_x9_cycle ?_)
    | (with_reducible refine F8_x9_clear ?_)
    | (with_reducible refine F8_x3_store ?_ _ _)
    | (with_reducible refine F8_x10_empty ?_)
    | (with_reducible refine F8_x10_store ?_ _ _)
    | (with_reducible refine F8_x10_done ?_)
    | (with_reducible refine F8_x10_cycle ?_)
    | (with_reducible refine F8_x10_read ?_ _ _)
    | (with_reducible refine F8_x10_page ?_ _ _)
    | (with_reducible refine F8_x10_stores ?_ _ _)
    | (with_reducible refine F8_x10_clear ?_)
    | (with_reducible refine F8_x2_toPair ?_ _ _)
    | (with_reducible refine F8_x2_toStack ?_ _)
    | (with_reducible refine F8_x2_load ?_ _)
    | (with_reducible refine F8_x2_store ?_ _ _)
    | (with_reducible refine F8_x2_push ?_ _)
    | (with_reducible refine F8_x2_pop ?_)
    | (with_reducible refine F8_x2_go ?_ _)
    | (with_reducible refine F8_x2_pushPlace ?_)
    | (with_reducible refine F8_x2_popPlace ?_)
    | (with_reducible refine F8_x2_set ?_ _ _)
    | (with_reducible refine F8_x2_by ?_ _ _)
    | (with_reducible refine F8_x2_added ?_ _ _ _)
    | (with_reducible refine F8_x2_taken ?_ _ _ _)
    | (with_reducible refine F8_x2_takenOn ?_ _ _)
    | (with_reducible refine F8_x2_logic ?_ _)
    | (with_reducible refine F8_x2_product ?_ _ _)
    | (with_reducible refine F8_x2_next ?_)
    | (with_reducible refine F8_x2_skip ?_ _)
    | (with_reducible refine F8_x2_constant ?_ _)
    | (with_reducible refine F8_x2_pairs ?_ _)
    | (with_reducible refine F8_x2_twoRegisters ?_ _)
    | (with_reducible refine F8_x2_move ?_ _ _)
    | (with_reducible refine F8_x2_displaced ?_ _)
    | (with_reducible refine Fr_k ?_ (by decide))
    | (with_reducible refine Fr_0 ?_ (by decide))
    | with_reducible refine Fr_iter' ?_ ?_
    | with_reducible refine Fr_ite ?_ ?_
    | with_reducible refine FrP_ite ?_ ?_
    | with_reducible refine Fr_ltS ?_ ?_
    | with_reducible refine Fr_ltP ?_ ?_
    | with_reducible refine Fr_lti ?_
    | with_reducible refine FrP_ltS ?_ ?_
    | with_reducible refine FrP_ltP ?_ ?_
    | with_reducible refine FrP_lti ?_
    | with_reducible refine FrP_i ?_)
theorem F8_x2_portBits {c : Int32} {s : Sg} (h : Fr 8 c s) (x1 : Int32) : FrP 8 c (x2_portBits s x1) := by
  unfold x2_portBits
  repeat' (first
    | assumption
    | (intro i s h)
    | (intro v s h)
    | (intro s h)
    | (intro x)
    | (with_reducible refine F8_x4_store ?_ _ _)
    | (with_reducible refine F8_x4_clear ?_)
    | (with_reducible refine F8_x11_clear ?_)
    | (with_reducible refine F8_x5_store ?_ _ _)
    | (with_reducible refine F8_x5_cycle ?_)
    | (with_reducible refine F8_x5_clear ?_)
    | (with_reducible refine F8_x6_load ?_ _)
    | (with_reducible refine F8_x6_store ?_ _ _)
    | (with_reducible refine F8_x6_receive ?_)
    | (with_reducible refine F8_x6_cycle ?_)
    | (with_reducible refine F8_x6_add ?_ _)
    | (with_reducible refine F8_x6_clear ?_)
    | (with_reducible refine F8_x7_store ?_ _ _)
    | (with_reducible refine F8_x7_cycle ?_)
    | (with_reducible refine F8_x7_clear ?_)
    | (with_reducible refine F8_x8_store ?_ _ _)
    | (with_reducible refine F8_x8_shorter ?_)
    | (with_reducible refine F8_x8_cycle ?_)
    | (with_reducible refine F8_x8_clear ?_)
    | (with_reducible refine F8_x9_store ?_ _ _)
    | (with_reducible refine F8_x9_cycle ?_)
    | (with_reducible refine F8_x9_clear ?_)
    | (with_reducible refine F8_x3_store ?_ _ _)
    | (with_reducible refine F8_x10_empty ?_)
    | (with_reducible refine F8_x10_store ?_ _ _)
    | (with_reducible refine F8_x10_done ?_)
    | (with_reducible refine F8_x10_cycle ?_)
    | (with_reducible refine F8_x10_read ?_ _ _)
    | (with_reducible refine F8_x10_page ?_ _ _)
    | (with_reducible refine F8_x10_stores ?_ _ _)
    | (with_reducible refine F8_x10_clear ?_)
    | (with_reducible refine F8_x2_toPair ?_ _ _)
    | (with_reducible refine F8_x2_toStack ?_ _)
    | (with_reducible refine F8_x2_load ?_ _)
    | (with_reducible refine F8_x2_store ?_ _ _)
    | (with_reducible refine F8_x2_push ?_ _)
    | (with_reducible refine F8_x2_pop ?_)
    | (with_reducible refine F8_x2_go ?_ _)
    | (with_reducible refine F8_x2_pushPlace ?_)
    | (with_reducible refine F8_x2_popPlace ?_)
    | (with_reducible refine F8_x2_set ?_ _ _)
    | (with_reducible refine F8_x2_by ?_ _ _)
    | (with_reducible refine F8_x2_added ?_ _ _ _)
    | (with_reducible refine F8_x2_taken ?_ _ _ _)
    | (with_reducible refine F8_x2_takenOn ?_ _ _)
    | (with_reducible refine F8_x2_logic ?_ _)
    | (with_reducible refine F8_x2_product ?_ _ _)
    | (with_reducible refine F8_x2_next ?_)
    | (with_reducible refine F8_x2_skip ?_ _)
    | (with_reducible refine F8_x2_constant ?_ _)
    | (with_reducible refine F8_x2_pairs ?_ _)
    | (with_reducible refine F8_x2_twoRegisters ?_ _)
    | (with_reducible refine F8_x2_move ?_ _ _)
    | (with_reducible refine F8_x2_displaced ?_ _)
    | (with_reducible refine F8_x2_moved ?_ _ _)
    | (with_reducible refine Fr_k ?_ (by decide))
    | (with_reducible refine Fr_0 ?_ (by decide))
    | with_reducible refine Fr_iter' ?_ ?_
    | with_reducible refine Fr_ite ?_ ?_
    | with_reducible refine FrP_ite ?_ ?_
    | with_reducible refine Fr_ltS ?_ ?_
    | with_reducible refine Fr_ltP ?_ ?_
    | with_reducible refine Fr_lti ?_
    | with_reducible refine FrP_ltS ?_ ?_
    | with_reducible refine FrP_ltP ?_ ?_
    | with_reducible refine FrP_lti ?_
    | with_reducible refine FrP_i ?_)
theorem F8_x2_ports {c : Int32} {s : Sg} (h : Fr 8 c s) (x1 : Int32) : FrP 8 c (x2_ports s x1) := by
  unfold x2_ports
  repeat' (first
    | assumption
    | (intro i s h)
    | (intro v s h)
    | (intro s h)
    | (intro x)
    | (with_reducible refine F8_x4_store ?_ _ _)
    | (with_reducible refine F8_x4_clear ?_)
    | (with_reducible refine F8_x11_clear ?_)
    | (with_reducible refine F8_x5_store ?_ _ _)
    | (with_reducible refine F8_x5_cycle ?_)
    | (with_reducible refine F8_x5_clear ?_)
    | (with_reducible refine F8_x6_load ?_ _)
    | (with_reducible refine F8_x6_store ?_ _ _)
    | (with_reducible refine F8_x6_receive ?_)
    | (with_reducible refine F8_x6_cycle ?_)
    | (with_reducible refine F8_x6_add ?_ _)
    | (with_reducible refine F8_x6_clear ?_)
    | (with_reducible refine F8_x7_store ?_ _ _)
    | (with_reducible refine F8_x7_cycle ?_)
    | (with_reducible refine F8_x7_clear ?_)
    | (with_reducible refine F8_x8_store ?_ _ _)
    | (with_reducible refine F8_x8_shorter ?_)
    | (with_reducible refine F8_x8_cycle ?_)
    | (with_reducible refine F8_x8_clear ?_)
    | (with_reducible refine F8_x9_store ?_ _ _)
    | (with_reducible refine F8_x9_cycle ?_)
    | (with_reducible refine F8_x9_clear ?_)
    | (with_reducible refine F8_x3_store ?_ _ _)
    | (with_reducible refine F8_x10_empty ?_)
    | (with_reducible refine F8_x10_store ?_ _ _)
    | (with_reducible refine F8_x10_done ?_)
    | (with_reducible refine F8_x10_cycle ?_)
    | (with_reducible refine F8_x10_read ?_ _ _)
    | (with_reducible refine F8_x10_page ?_ _ _)
    | (with_reducible refine F8_x10_stores ?_ _ _)
    | (with_reducible refine F8_x10_clear ?_)
    | (with_reducible refine F8_x2_toPair ?_ _ _)
    | (with_reducible refine F8_x2_toStack ?_ _)
    | (with_reducible refine F8_x2_load ?_ _)
    | (with_reducible refine F8_x2_store ?_ _ _)
    | (with_reducible refine F8_x2_push ?_ _)
    | (with_reducible refine F8_x2_pop ?_)
    | (with_reducible refine F8_x2_go ?_ _)
    | (with_reducible refine F8_x2_pushPlace ?_)
    | (with_reducible refine F8_x2_popPlace ?_)
    | (with_reducible refine F8_x2_set ?_ _ _)
    | (with_reducible refine F8_x2_by ?_ _ _)
    | (with_reducible refine F8_x2_added ?_ _ _ _)
    | (with_reducible refine F8_x2_taken ?_ _ _ _)
    | (with_reducible refine F8_x2_takenOn ?_ _ _)
    | (with_reducible refine F8_x2_logic ?_ _)
    | (with_reducible refine F8_x2_product ?_ _ _)
    | (with_reducible refine F8_x2_next ?_)
    | (with_reducible refine F8_x2_skip ?_ _)
    | (with_reducible refine F8_x2_constant ?_ _)
    | (with_reducible refine F8_x2_pairs ?_ _)
    | (with_reducible refine F8_x2_twoRegisters ?_ _)
    | (with_reducible refine F8_x2_move ?_ _ _)
    | (with_reducible refine F8_x2_displaced ?_ _)
    | (with_reducible refine F8_x2_moved ?_ _ _)
    | (with_reducible refine F8_x2_portBits ?_ _)
    | (with_reducible refine Fr_k ?_ (by decide))
    | (with_reducible refine Fr_0 ?_ (by decide))
    | with_reducible refine Fr_iter' ?_ ?_
    | with_reducible refine Fr_ite ?_ ?_
    | with_reducible refine FrP_ite ?_ ?_
    | with_reducible refine Fr_ltS ?_ ?_
    | with_reducible refine Fr_ltP ?_ ?_
    | with_reducible refine Fr_lti ?_
    | with_reducible refine FrP_ltS ?_ ?_
    | with_reducible refine FrP_ltP ?_ ?_
    | with_reducible refine FrP_lti ?_
    | with_reducible refine FrP_i ?_)
theorem F8_x2_words {c : Int32} {s : Sg} (h : Fr 8 c s) (x1 : Int32) : FrP 8 c (x2_words s x1) := by
  unfold x2_words
  repeat' (first
    | assumption
    | (intro i s h)
    | (intro v s h)
    | (intro s h)
    | (intro x)
    | (with_reducible refine F8_x4_store ?_ _ _)
    | (with_reducible refine F8_x4_clear ?_)
    | (with_reducible refine F8_x11_clear ?_)
    | (with_reducible refine F8_x5_store ?_ _ _)
    | (with_reducible refine F8_x5_cycle ?_)
    | (with_reducible refine F8_x5_clear ?_)
    | (with_reducible refine F8_x6_load ?_ _)
    | (with_reducible refine F8_x6_store ?_ _ _)
    | (with_reducible refine F8_x6_receive ?_)
    | (with_reducible refine F8_x6_cycle ?_)
    | (with_reducible refine F8_x6_add ?_ _)
    | (with_reducible refine F8_x6_clear ?_)
    | (with_reducible refine F8_x7_store ?_ _ _)
    | (with_reducible refine F8_x7_cycle ?_)
    | (with_reducible refine F8_x7_clear ?_)
    | (with_reducible refine F8_x8_store ?_ _ _)
    | (with_reducible refine F8_x8_shorter ?_)
    | (with_reducible refine F8_x8_cycle ?_)
    | (with_reducible refine F8_x8_clear ?_)
    | (with_reducible refine F8_x9_store ?_ _ _)
    | (with_reducible refine F8_x9_cycle ?_)
    | (with_reducible refine F8_x9_clear ?_)
    | (with_reducible refine F8_x3_store ?_ _ _)
    | (with_reducible refine F8_x10_empty ?_)
    | (with_reducible refine F8_x10_store ?_ _ _)
    | (with_reducible refine F8_x10_done ?_)
    | (with_reducible refine F8_x10_cycle ?_)
    | (with_reducible refine F8_x10_read ?_ _ _)
    | (with_reducible refine F8_x10_page ?_ _ _)
    | (with_reducible refine F8_x10_stores ?_ _ _)
    | (with_reducible refine F8_x10_clear ?_)
    | (with_reducible refine F8_x2_toPair ?_ _ _)
    | (with_reducible refine F8_x2_toStack ?_ _)
    | (with_reducible refine F8_x2_load ?_ _)
    | (with_reducible refine F8_x2_store ?_ _ _)
    | (with_reducible refine F8_x2_push ?_ _)
    | (with_reducible refine F8_x2_pop ?_)
    | (with_reducible refine F8_x2_go ?_ _)
    | (with_reducible refine F8_x2_pushPlace ?_)
    | (with_reducible refine F8_x2_popPlace ?_)
    | (with_reducible refine F8_x2_set ?_ _ _)
    | (with_reducible refine F8_x2_by ?_ _ _)
    | (with_reducible refine F8_x2_added ?_ _ _ _)
    | (with_reducible refine F8_x2_taken ?_ _ _ _)
    | (with_reducible refine F8_x2_takenOn ?_ _ _)
    | (with_reducible refine F8_x2_logic ?_ _)
    | (with_reducible refine F8_x2_product ?_ _ _)
    | (with_reducible refine F8_x2_next ?_)
    | (with_reducible refine F8_x2_skip ?_ _)
    | (with_reducible refine F8_x2_constant ?_ _)
    | (with_reducible refine F8_x2_pairs ?_ _)
    | (with_reducible refine F8_x2_twoRegisters ?_ _)
    | (with_reducible refine F8_x2_move ?_ _ _)
    | (with_reducible refine F8_x2_displaced ?_ _)
    | (with_reducible refine F8_x2_moved ?_ _ _)
    | (with_reducible refine F8_x2_portBits ?_ _)
    | (with_reducible refine F8_x2_ports ?_ _)
    | (with_reducible refine Fr_k ?_ (by decide))
    | (with_reducible refine Fr_0 ?_ (by decide))
    | with_reducible refine Fr_iter' ?_ ?_
    | with_reducible refine Fr_ite ?_ ?_
    | with_reducible refine FrP_ite ?_ ?_
    | with_reducible refine Fr_ltS ?_ ?_
    | with_reducible refine Fr_ltP ?_ ?_
    | with_reducible refine Fr_lti ?_
    | with_reducible refine FrP_ltS ?_ ?_
    | with_reducible refine FrP_ltP ?_ ?_
    | with_reducible refine FrP_lti ?_
    | with_reducible refine FrP_i ?_)
theorem F8_x2_shifted {c : Int32} {s : Sg} (h : Fr 8 c s) (x1 x2 : Int32) : Fr 8 c (x2_shifted s x1 x2) := by
  unfold x2_shifted
  repeat' (first
    | assumption
    | (intro i s h)
    | (intro v s h)
    | (intro s h)
    | (intro x)
    | (with_reducible refine F8_x4_store ?_ _ _)
    | (with_reducible refine F8_x4_clear ?_)
    | (with_reducible refine F8_x11_clear ?_)
    | (with_reducible refine F8_x5_store ?_ _ _)
    | (with_reducible refine F8_x5_cycle ?_)
    | (with_reducible refine F8_x5_clear ?_)
    | (with_reducible refine F8_x6_load ?_ _)
    | (with_reducible refine F8_x6_store ?_ _ _)
    | (with_reducible refine F8_x6_receive ?_)
    | (with_reducible refine F8_x6_cycle ?_)
    | (with_reducible refine F8_x6_add ?_ _)
    | (with_reducible refine F8_x6_clear ?_)
    | (with_reducible refine F8_x7_store ?_ _ _)
    | (with_reducible refine F8_x7_cycle ?_)
    | (with_reducible refine F8_x7_clear ?_)
    | (with_reducible refine F8_x8_store ?_ _ _)
    | (with_reducible refine F8_x8_shorter ?_)
    | (with_reducible refine F8_x8_cycle ?_)
    | (with_reducible refine F8_x8_clear ?_)
    | (with_reducible refine F8_x9_store ?_ _ _)
    | (with_reducible refine F8_x9_cycle ?_)
    | (with_reducible refine F8_x9_clear ?_)
    | (with_reducible refine F8_x3_store ?_ _ _)
    | (with_reducible refine F8_x10_empty ?_)
    | (with_reducible refine F8_x10_store ?_ _ _)
    | (with_reducible refine F8_x10_done ?_)
    | (with_reducible refine F8_x10_cycle ?_)
    | (with_reducible refine F8_x10_read ?_ _ _)
    | (with_reducible refine F8_x10_page ?_ _ _)
    | (with_reducible refine F8_x10_stores ?_ _ _)
    | (with_reducible refine F8_x10_clear ?_)
    | (with_reducible refine F8_x2_toPair ?_ _ _)
    | (with_reducible refine F8_x2_toStack ?_ _)
    | (with_reducible refine F8_x2_load ?_ _)
    | (with_reducible refine F8_x2_store ?_ _ _)
    | (with_reducible refine F8_x2_push ?_ _)
    | (with_reducible refine F8_x2_pop ?_)
    | (with_reducible refine F8_x2_go ?_ _)
    | (with_reducible refine F8_x2_pushPlace ?_)
    | (with_reducible refine F8_x2_popPlace ?_)
    | (with_reducible refine F8_x2_set ?_ _ _)
    | (with_reducible refine F8_x2_by ?_ _ _)
    | (with_reducible refine F8_x2_added ?_ _ _ _)
    | (with_reducible refine F8_x2_taken ?_ _ _ _)
    | (with_reducible refine F8_x2_takenOn ?_ _ _)
    | (with_reducible refine F8_x2_logic ?_ _)
    | (with_reducible refine F8_x2_product ?_ _ _)
    | (with_reducible refine F8_x2_next ?_)
    | (with_reducible refine F8_x2_skip ?_ _)
    | (with_reducible refine F8_x2_constant ?_ _)
    | (with_reducible refine F8_x2_pairs ?_ _)
    | (with_reducible refine F8_x2_twoRegisters ?_ _)
    | (with_reducible refine F8_x2_move ?_ _ _)
    | (with_reducible refine F8_x2_displaced ?_ _)
    | (with_reducible refine F8_x2_moved ?_ _ _)
    | (with_reducible refine F8_x2_portBits ?_ _)
    | (with_reducible refine F8_x2_ports ?_ _)
    | (with_reducible refine F8_x2_words ?_ _)
    | (with_reducible refine Fr_k ?_ (by decide))
    | (with_reducible refine Fr_0 ?_ (by decide))
    | with_reducible refine Fr_iter' ?_ ?_
    | with_reducible refine Fr_ite ?_ ?_
    | with_reducible refine FrP_ite ?_ ?_
    | with_reducible refine Fr_ltS ?_ ?_
    | with_reducible refine Fr_ltP ?_ ?_
    | with_reducible refine Fr_lti ?_
    | with_reducible refine FrP_ltS ?_ ?_
    | with_reducible refine FrP_ltP ?_ ?_
    | with_reducible refine FrP_lti ?_
    | with_reducible refine FrP_i ?_)
theorem F8_x2_indirect {c : Int32} {s : Sg} (h : Fr 8 c s) (x1 : Int32) : FrP 8 c (x2_indirect s x1) := by
  unfold x2_indirect
  repeat' (first
    | assumption
    | (intro i s h)
    | (intro v s h)
    | (intro s h)
    | (intro x)
    | (with_reducible refine F8_x4_store ?_ _ _)
    | (with_reducible refine F8_x4_clear ?_)
    | (with_reducible refine F8_x11_clear ?_)
    | (with_reducible refine F8_x5_store ?_ _ _)
    | (with_reducible refine F8_x5_cycle ?_)
    | (with_reducible refine F8_x5_clear ?_)
    | (with_reducible refine F8_x6_load ?_ _)
    | (with_reducible refine F8_x6_store ?_ _ _)
    | (with_reducible refine F8_x6_receive ?_)
    | (with_reducible refine F8_x6_cycle ?_)
    | (with_reducible refine F8_x6_add ?_ _)
    | (with_reducible refine F8_x6_clear ?_)
    | (with_reducible refine F8_x7_store ?_ _ _)
    | (with_reducible refine F8_x7_cycle ?_)
    | (with_reducible refine F8_x7_clear ?_)
    | (with_reducible refine F8_x8_store ?_ _ _)
    | (with_reducible refine F8_x8_shorter ?_)
    | (with_reducible refine F8_x8_cycle ?_)
    | (with_reducible refine F8_x8_clear ?_)
    | (with_reducible refine F8_x9_store ?_ _ _)
    | (with_reducible refine F8_x9_cycle ?_)
    | (with_reducible refine F8_x9_clear ?_)
    | (with_reducible refine F8_x3_store ?_ _ _)
    | (with_reducible refine F8_x10_empty ?_)
    | (with_reducible refine F8_x10_store ?_ _ _)
    | (with_reducible refine F8_x10_done ?_)
    | (with_reducible refine F8_x10_cycle ?_)
    | (with_reducible refine F8_x10_read ?_ _ _)
    | (with_reducible refine F8_x10_page ?_ _ _)
    | (with_reducible refine F8_x10_stores ?_ _ _)
    | (with_reducible refine F8_x10_clear ?_)
    | (with_reducible refine F8_x2_toPair ?_ _ _)
    | (with_reducible refine F8_x2_toStack ?_ _)
    | (with_reducible refine F8_x2_load ?_ _)
    | (with_reducible refine F8_x2_store ?_ _ _)
    | (with_reducible refine F8_x2_push ?_ _)
    | (with_reducible refine F8_x2_pop ?_)
    | (with_reducible refine F8_x2_go ?_ _)
    | (with_reducible refine F8_x2_pushPlace ?_)
    | (with_reducible refine F8_x2_popPlace ?_)
    | (with_reducible refine F8_x2_set ?_ _ _)
    | (with_reducible refine F8_x2_by ?_ _ _)
    | (with_reducible refine F8_x2_added ?_ _ _ _)
    | (with_reducible refine F8_x2_taken ?_ _ _ _)
    | (with_reducible refine F8_x2_takenOn ?_ _ _)
    | (with_reducible refine F8_x2_logic ?_ _)
    | (with_reducible refine F8_x2_product ?_ _ _)
    | (with_reducible refine F8_x2_next ?_)
    | (with_reducible refine F8_x2_skip ?_ _)
    | (with_reducible refine F8_x2_constant ?_ _)
    | (with_reducible refine F8_x2_pairs ?_ _)
    | (with_reducible refine F8_x2_twoRegisters ?_ _)
    | (with_reducible refine F8_x2_move ?_ _ _)
    | (with_reducible refine F8_x2_displaced ?_ _)
    | (with_reducible refine F8_x2_moved ?_ _ _)
    | (with_reducible refine F8_x2_portBits ?_ _)
    | (with_reducible refine F8_x2_ports ?_ _)
    | (with_reducible refine F8_x2_words ?_ _)
    | (with_reducible refine F8_x2_shifted ?_ _ _)
    | (with_reducible refine Fr_k ?_ (by decide))
    | (with_reducible refine Fr_0 ?_ (by decide))
    | with_reducible refine Fr_iter' ?_ ?_
    | with_reducible refine Fr_ite ?_ ?_
    | with_reducible refine FrP_ite ?_ ?_
    | with_reducible refine Fr_ltS ?_ ?_
    | with_reducible refine Fr_ltP ?_ ?_
    | with_reducible refine Fr_lti ?_
    | with_reducible refine FrP_ltS ?_ ?_
    | with_reducible refine FrP_ltP ?_ ?_
    | with_reducible refine FrP_lti ?_
    | with_reducible refine FrP_i ?_)
theorem F8_x2_alone {c : Int32} {s : Sg} (h : Fr 8 c s) (x1 x2 : Int32) : FrP 8 c (x2_alone s x1 x2) := by
  unfold x2_alone
  repeat' (first
    | assumption
    | (intro i s h)
    | (intro v s h)
    | (intro s h)
    | (intro x)
    | (with_reducible refine F8_x4_store ?_ _ _)
    | (with_reducible refine F8_x4_clear ?_)
    | (with_reducible refine F8_x11_clear ?_)
    | (with_reducible refine F8_x5_store ?_ _ _)
    | (with_reducible refine F8_x5_cycle ?_)
    | (with_reducible refine F8_x5_clear ?_)
    | (with_reducible refine F8_x6_load ?_ _)
    | (with_reducible refine F8_x6_store ?_ _ _)
    | (with_reducible refine F8_x6_receive ?_)
    | (with_reducible refine F8_x6_cycle ?_)
    | (with_reducible refine F8_x6_add ?_ _)
    | (with_reducible refine F8_x6_clear ?_)
    | (with_reducible refine F8_x7_store ?_ _ _)
    | (with_reducible refine F8_x7_cycle ?_)
    | (with_reducible refine F8_x7_clear ?_)
    | (with_reducible refine F8_x8_store ?_ _ _)
    | (with_reducible refine F8_x8_shorter ?_)
    | (with_reducible refine F8_x8_cycle ?_)
    | (with_reducible refine F8_x8_clear ?_)
    | (with_reducible refine F8_x9_store ?_ _ _)
    | (with_reducible refine F8_x9_cycle ?_)
    | (with_reducible refine F8_x9_clear ?_)
    | (with_reducible refine F8_x3_store ?_ _ _)
    | (with_reducible refine F8_x10_empty ?_)
    | (with_reducible refine F8_x10_store ?_ _ _)
    | (with_reducible refine F8_x10_done ?_)
    | (with_reducible refine F8_x10_cycle ?_)
    | (with_reducible refine F8_x10_read ?_ _ _)
    | (with_reducible refine F8_x10_page ?_ _ _)
    | (with_reducible refine F8_x10_stores ?_ _ _)
    | (with_reducible refine F8_x10_clear ?_)
    | (with_reducible refine F8_x2_toPair ?_ _ _)
    | (with_reducible refine F8_x2_toStack ?_ _)
    | (with_reducible refine F8_x2_load ?_ _)
    | (with_reducible refine F8_x2_store ?_ _ _)
    | (with_reducible refine F8_x2_push ?_ _)
    | (with_reducible refine F8_x2_pop ?_)
    | (with_reducible refine F8_x2_go ?_ _)
    | (with_reducible refine F8_x2_pushPlace ?_)
    | (with_reducible refine F8_x2_popPlace ?_)
    | (with_reducible refine F8_x2_set ?_ _ _)
    | (with_reducible refine F8_x2_by ?_ _ _)
    | (with_reducible refine F8_x2_added ?_ _ _ _)
    | (with_reducible refine F8_x2_taken ?_ _ _ _)
    | (with_reducible refine F8_x2_takenOn ?_ _ _)
    | (with_reducible refine F8_x2_logic ?_ _)
    | (with_reducible refine F8_x2_product ?_ _ _)
    | (with_reducible refine F8_x2_next ?_)
    | (with_reducible refine F8_x2_skip ?_ _)
    | (with_reducible refine F8_x2_constant ?_ _)
    | (with_reducible refine F8_x2_pairs ?_ _)
    | (with_reducible refine F8_x2_twoRegisters ?_ _)
    | (with_reducible refine F8_x2_move ?_ _ _)
    | (with_reducible refine F8_x2_displaced ?_ _)
    | (with_reducible refine F8_x2_moved ?_ _ _)
    | (with_reducible refine F8_x2_portBits ?_ _)
    | (with_reducible refine F8_x2_ports ?_ _)
    | (with_reducible refine F8_x2_words ?_ _)
    | (with_reducible refine F8_x2_shifted ?_ _ _)
    | (with_reducible refine F8_x2_indirect ?_ _)
    | (with_reducible refine Fr_k ?_ (by decide))
    | (with_reducible refine Fr_0 ?_ (by decide))
    | with_reducible refine Fr_iter' ?_ ?_
    | with_reducible refine Fr_ite ?_ ?_
    | with_reducible refine FrP_ite ?_ ?_
    | with_reducible refine Fr_ltS ?_ ?_
    | with_reducible refine Fr_ltP ?_ ?_
    | with_reducible refine Fr_lti ?_
    | with_reducible refine FrP_ltS ?_ ?_
    | with_reducible refine FrP_ltP ?_ ?_
    | with_reducible refine FrP_lti ?_
    | with_reducible refine FrP_i ?_)
theorem F8_x2_one {c : Int32} {s : Sg} (h : Fr 8 c s) (x1 x2 : Int32) : FrP 8 c (x2_one s x1 x2) := by
  unfold x2_one
  repeat' (first
    | assumption
    | (intro i s h)
    | (intro v s h)
    | (intro s h)
    | (intro x)
    | (with_reducible refine F8_x4_store ?_ _ _)
    | (with_reducible refine F8_x4_clear ?_)
    | (with_reducible refine F8_x11_clear ?_)
    | (with_reducible refine F8_x5_store ?_ _ _)
    | (with_reducible refine F8_x5_cycle ?_)
    | (with_reducible refine F8_x5_clear ?_)
    | (with_reducible refine F8_x6_load ?_ _)
    | (with_reducible refine F8_x6_store ?_ _ _)
    | (with_reducible refine F8_x6_receive ?_)
    | (with_reducible refine F8_x6_cycle ?_)
    | (with_reducible refine F8_x6_add ?_ _)
    | (with_reducible refine F8_x6_clear ?_)
    | (with_reducible refine F8_x7_store ?_ _ _)
    | (with_reducible refine F8_x7_cycle ?_)
    | (with_reducible refine F8_x7_clear ?_)
    | (with_reducible refine F8_x8_store ?_ _ _)
    | (with_reducible refine F8_x8_shorter ?_)
    | (with_reducible refine F8_x8_cycle ?_)
    | (with_reducible refine F8_x8_clear ?_)
    | (with_reducible refine F8_x9_store ?_ _ _)
    | (with_reducible refine F8_x9_cycle ?_)
    | (with_reducible refine F8_x9_clear ?_)
    | (with_reducible refine F8_x3_store ?_ _ _)
    | (with_reducible refine F8_x10_empty ?_)
    | (with_reducible refine F8_x10_store ?_ _ _)
    | (with_reducible refine F8_x10_done ?_)
    | (with_reducible refine F8_x10_cycle ?_)
    | (with_reducible refine F8_x10_read ?_ _ _)
    | (with_reducible refine F8_x10_page ?_ _ _)
    | (with_reducible refine F8_x10_stores ?_ _ _)
    | (with_reducible refine F8_x10_clear ?_)
    | (with_reducible refine F8_x2_toPair ?_ _ _)
    | (with_reducible refine F8_x2_toStack ?_ _)
    | (with_reducible refine F8_x2_load ?_ _)
    | (with_reducible refine F8_x2_store ?_ _ _)
    | (with_reducible refine F8_x2_push ?_ _)
    | (with_reducible refine F8_x2_pop ?_)
    | (with_reducible refine F8_x2_go ?_ _)
    | (with_reducible refine F8_x2_pushPlace ?_)
    | (with_reducible refine F8_x2_popPlace ?_)
    | (with_reducible refine F8_x2_set ?_ _ _)
    | (with_reducible refine F8_x2_by ?_ _ _)
    | (with_reducible refine F8_x2_added ?_ _ _ _)
    | (with_reducible refine F8_x2_taken ?_ _ _ _)
    | (with_reducible refine F8_x2_takenOn ?_ _ _)
    | (with_reducible refine F8_x2_logic ?_ _)
    | (with_reducible refine F8_x2_product ?_ _ _)
    | (with_reducible refine F8_x2_next ?_)
    | (with_reducible refine F8_x2_skip ?_ _)
    | (with_reducible refine F8_x2_constant ?_ _)
    | (with_reducible refine F8_x2_pairs ?_ _)
    | (with_reducible refine F8_x2_twoRegisters ?_ _)
    | (with_reducible refine F8_x2_move ?_ _ _)
    | (with_reducible refine F8_x2_displaced ?_ _)
    | (with_reducible refine F8_x2_moved ?_ _ _)
    | (with_reducible refine F8_x2_portBits ?_ _)
    | (with_reducible refine F8_x2_ports ?_ _)
    | (with_reducible refine F8_x2_words ?_ _)
    | (with_reducible refine F8_x2_shifted ?_ _ _)
    | (with_reducible refine F8_x2_indirect ?_ _)
    | (with_reducible refine F8_x2_alone ?_ _ _)
    | (with_reducible refine Fr_k ?_ (by decide))
    | (with_reducible refine Fr_0 ?_ (by decide))
    | with_reducible refine Fr_iter' ?_ ?_
    | with_reducible refine Fr_ite ?_ ?_
    | with_reducible refine FrP_ite ?_ ?_
    | with_reducible refine Fr_ltS ?_ ?_
    | with_reducible refine Fr_ltP ?_ ?_
    | with_reducible refine Fr_lti ?_
    | with_reducible refine FrP_ltS ?_ ?_
    | with_reducible refine FrP_ltP ?_ ?_
    | with_reducible refine FrP_lti ?_
    | with_reducible refine FrP_i ?_)
theorem F8_x2_bits {c : Int32} {s : Sg} (h : Fr 8 c s) (x1 : Int32) : FrP 8 c (x2_bits s x1) := by
  unfold x2_bits
  repeat' (first
    | assumption
    | (intro i s h)
    | (intro v s h)
    | (intro s h)
    | (intro x)
    | (with_reducible refine F8_x4_store ?_ _ _)
    | (with_reducible refine F8_x4_clear ?_)
    | (with_reducible refine F8_x11_clear ?_)
    | (with_reducible refine F8_x5_store ?_ _ _)
    | (with_reducible refine F8_x5_cycle ?_)
    | (with_reducible refine F8_x5_clear ?_)
    | (with_reducible refine F8_x6_load ?_ _)
    | (with_reducible refine F8_x6_store ?_ _ _)
    | (with_reducible refine F8_x6_receive ?_)
    | (with_reducible refine F8_x6_cycle ?_)
    | (with_reducible refine F8_x6_add ?_ _)
    | (with_reducible refine F8_x6_clear ?_)
    | (with_reducible refine F8_x7_store ?_ _ _)
    | (with_reducible refine F8_x7_cycle ?_)
    | (with_reducible refine F8_x7_clear ?_)
    | (with_reducible refine F8_x8_store ?_ _ _)
    | (with_reducible refine F8_x8_shorter ?_)
    | (with_reducible refine F8_x8_cycle ?_)
    | (with_reducible refine F8_x8_clear ?_)
    | (with_reducible refine F8_x9_store ?_ _ _)
    | (with_reducible refine F8_x9_cycle ?_)
    | (with_reducible refine F8_x9_clear ?_)
    | (with_reducible refine F8_x3_store ?_ _ _)
    | (with_reducible refine F8_x10_empty ?_)
    | (with_reducible refine F8_x10_store ?_ _ _)
    | (with_reducible refine F8_x10_done ?_)
    | (with_reducible refine F8_x10_cycle ?_)
    | (with_reducible refine F8_x10_read ?_ _ _)
    | (with_reducible refine F8_x10_page ?_ _ _)
    | (with_reducible refine F8_x10_stores ?_ _ _)
    | (with_reducible refine F8_x10_clear ?_)
    | (with_reducible refine F8_x2_toPair ?_ _ _)
    | (with_reducible refine F8_x2_toStack ?_ _)
    | (with_reducible refine F8_x2_load ?_ _)
    | (with_reducible refine F8_x2_store ?_ _ _)
    | (with_reducible refine F8_x2_push ?_ _)
    | (with_reducible refine F8_x2_pop ?_)
    | (with_reducible refine F8_x2_go ?_ _)
    | (with_reducible refine F8_x2_pushPlace ?_)
    | (with_reducible refine F8_x2_popPlace ?_)
    | (with_reducible refine F8_x2_set ?_ _ _)
    | (with_reducible refine F8_x2_by ?_ _ _)
    | (with_reducible refine F8_x2_added ?_ _ _ _)
    | (with_reducible refine F8_x2_taken ?_ _ _ _)
    | (with_reducible refine F8_x2_takenOn ?_ _ _)
    | (with_reducible refine F8_x2_logic ?_ _)
    | (with_reducible refine F8_x2_product ?_ _ _)
    | (with_reducible refine F8_x2_next ?_)
    | (with_reducible refine F8_x2_skip ?_ _)
    | (with_reducible refine F8_x2_constant ?_ _)
    | (with_reducible refine F8_x2_pairs ?_ _)
    | (with_reducible refine F8_x2_twoRegisters ?_ _)
    | (with_reducible refine F8_x2_move ?_ _ _)
    | (with_reducible refine F8_x2_displaced ?_ _)
    | (with_reducible refine F8_x2_moved ?_ _ _)
    | (with_reducible refine F8_x2_portBits ?_ _)
    | (with_reducible refine F8_x2_ports ?_ _)
    | (with_reducible refine F8_x2_words ?_ _)
    | (with_reducible refine F8_x2_shifted ?_ _ _)
    | (with_reducible refine F8_x2_indirect ?_ _)
    | (with_reducible refine F8_x2_alone ?_ _ _)
    | (with_reducible refine F8_x2_one ?_ _ _)
    | (with_reducible refine Fr_k ?_ (by decide))
    | (with_reducible refine Fr_0 ?_ (by decide))
    | with_reducible refine Fr_iter' ?_ ?_
    | with_reducible refine Fr_ite ?_ ?_
    | with_reducible refine FrP_ite ?_ ?_
    | with_reducible refine Fr_ltS ?_ ?_
    | with_reducible refine Fr_ltP ?_ ?_
    | with_reducible refine Fr_lti ?_
    | with_reducible refine FrP_ltS ?_ ?_
    | with_reducible refine FrP_ltP ?_ ?_
    | with_reducible refine FrP_lti ?_
    | with_reducible refine FrP_i ?_)
theorem F8_x2_nine {c : Int32} {s : Sg} (h : Fr 8 c s) (x1 x2 : Int32) : FrP 8 c (x2_nine s x1 x2) := by
  unfold x2_nine
  repeat' (first
    | assumption
    | (intro i s h)
    | (intro v s h)
    | (intro s h)
    | (intro x)
    | (with_reducible refine F8_x4_store ?_ _ _)
    | (with_reducible refine F8_x4_clear ?_)
    | (with_reducible refine F8_x11_clear ?_)
    | (with_reducible refine F8_x5_store ?_ _ _)
    | (with_reducible refine F8_x5_cycle ?_)
    | (with_reducible refine F8_x5_clear ?_)
    | (with_reducible refine F8_x6_load ?_ _)
    | (with_reducible refine F8_x6_store ?_ _ _)
    | (with_reducible refine F8_x6_receive ?_)
    | (with_reducible refine F8_x6_cycle ?_)
    | (with_reducible refine F8_x6_add ?_ _)
    | (with_reducible refine F8_x6_clear ?_)
    | (with_reducible refine F8_x7_store ?_ _ _)
    | (with_reducible refine F8_x7_cycle ?_)
    | (with_reducible refine F8_x7_clear ?_)
    | (with_reducible refine F8_x8_store ?_ _ _)
    | (with_reducible refine F8_x8_shorter ?_)
    | (with_reducible refine F8_x8_cycle ?_)
    | (with_reducible refine F8_x8_clear ?_)
    | (with_reducible refine F8_x9_store ?_ _ _)
    | (with_reducible refine F8_x9_cycle ?_)
    | (with_reducible refine F8_x9_clear ?_)
    | (with_reducible refine F8_x3_store ?_ _ _)
    | (with_reducible refine F8_x10_empty ?_)
    | (with_reducible refine F8_x10_store ?_ _ _)
    | (with_reducible refine F8_x10_done ?_)
    | (with_reducible refine F8_x10_cycle ?_)
    | (with_reducible refine F8_x10_read ?_ _ _)
    | (with_reducible refine F8_x10_page ?_ _ _)
    | (with_reducible refine F8_x10_stores ?_ _ _)
    | (with_reducible refine F8_x10_clear ?_)
    | (with_reducible refine F8_x2_toPair ?_ _ _)
    | (with_reducible refine F8_x2_toStack ?_ _)
    | (with_reducible refine F8_x2_load ?_ _)
    | (with_reducible refine F8_x2_store ?_ _ _)
    | (with_reducible refine F8_x2_push ?_ _)
    | (with_reducible refine F8_x2_pop ?_)
    | (with_reducible refine F8_x2_go ?_ _)
    | (with_reducible refine F8_x2_pushPlace ?_)
    | (with_reducible refine F8_x2_popPlace ?_)
    | (with_reducible refine F8_x2_set ?_ _ _)
    | (with_reducible refine F8_x2_by ?_ _ _)
    | (with_reducible refine F8_x2_added ?_ _ _ _)
    | (with_reducible refine F8_x2_taken ?_ _ _ _)
    | (with_reducible refine F8_x2_takenOn ?_ _ _)
    | (with_reducible refine F8_x2_logic ?_ _)
    | (with_reducible refine F8_x2_product ?_ _ _)
    | (with_reducible refine F8_x2_next ?_)
    | (with_reducible refine F8_x2_skip ?_ _)
    | (with_reducible refine F8_x2_constant ?_ _)
    | (with_reducible refine F8_x2_pairs ?_ _)
    | (with_reducible refine F8_x2_twoRegisters ?_ _)
    | (with_reducible refine F8_x2_move ?_ _ _)
    | (with_reducible refine F8_x2_displaced ?_ _)
    | (with_reducible refine F8_x2_moved ?_ _ _)
    | (with_reducible refine F8_x2_portBits ?_ _)
    | (with_reducible refine F8_x2_ports ?_ _)
    | (with_reducible refine F8_x2_words ?_ _)
    | (with_reducible refine F8_x2_shifted ?_ _ _)
    | (with_reducible refine F8_x2_indirect ?_ _)
    | (with_reducible refine F8_x2_alone ?_ _ _)
    | (with_reducible refine F8_x2_one ?_ _ _)
    | (with_reducible refine F8_x2_bits ?_ _)
    | (with_reducible refine Fr_k ?_ (by decide))
    | (with_reducible refine Fr_0 ?_ (by decide))
    | with_reducible refine Fr_iter' ?_ ?_
    | with_reducible refine Fr_ite ?_ ?_
    | with_reducible refine FrP_ite ?_ ?_
    | with_reducible refine Fr_ltS ?_ ?_
    | with_reducible refine Fr_ltP ?_ ?_
    | with_reducible refine Fr_lti ?_
    | with_reducible refine FrP_ltS ?_ ?_
    | with_reducible refine FrP_ltP ?_ ?_
    | with_reducible refine FrP_lti ?_
    | with_reducible refine FrP_i ?_)
theorem F8_x2_instruction {c : Int32} {s : Sg} (h : Fr 8 c s)  : FrP 8 c (x2_instruction s ) := by
  unfold x2_instruction
  repeat' (first
    | assumption
    | (intro i s h)
    | (intro v s h)
    | (intro s h)
    | (intro x)
    | (with_reducible refine F8_x4_store ?_ _ _)
    | (with_reducible refine F8_x4_clear ?_)
    | (with_reducible refine F8_x11_clear ?_)
    | (with_reducible refine F8_x5_store ?_ _ _)
    | (with_reducible refine F8_x5_cycle ?_)
    | (with_reducible refine F8_x5_clear ?_)
    | (with_reducible refine F8_x6_load ?_ _)
    | (with_reducible refine F8_x6_store ?_ _ _)
    | (with_reducible refine F8_x6_receive ?_)
    | (with_reducible refine F8_x6_cycle ?_)
    | (with_reducible refine F8_x6_add ?_ _)
    | (with_reducible refine F8_x6_clear ?_)
    | (with_reducible refine F8_x7_store ?_ _ _)
    | (with_reducible refine F8_x7_cycle ?_)
    | (with_reducible refine F8_x7_clear ?_)
    | (with_reducible refine F8_x8_store ?_ _ _)
    | (with_reducible refine F8_x8_shorter ?_)
    | (with_reducible refine F8_x8_cycle ?_)
    | (with_reducible refine F8_x8_clear ?_)
    | (with_reducible refine F8_x9_store ?_ _ _)
    | (with_reducible refine F8_x9_cycle ?_)
    | (with_reducible refine F8_x9_clear ?_)
    | (with_reducible refine F8_x3_store ?_ _ _)
    | (with_reducible refine F8_x10_empty ?_)
    | (with_reducible refine F8_x10_store ?_ _ _)
    | (with_reducible refine F8_x10_done ?_)
    | (with_reducible refine F8_x10_cycle ?_)
    | (with_reducible refine F8_x10_read ?_ _ _)
    | (with_reducible refine F8_x10_page ?_ _ _)
    | (with_reducible refine F8_x10_stores ?_ _ _)
    | (with_reducible refine F8_x10_clear ?_)
    | (with_reducible refine F8_x2_toPair ?_ _ _)
    | (with_reducible refine F8_x2_toStack ?_ _)
    | (with_reducible refine F8_x2_load ?_ _)
    | (with_reducible refine F8_x2_store ?_ _ _)
    | (with_reducible refine F8_x2_push ?_ _)
    | (with_reducible refine F8_x2_pop ?_)
    | (with_reducible refine F8_x2_go ?_ _)
    | (with_reducible refine F8_x2_pushPlace ?_)
    | (with_reducible refine F8_x2_popPlace ?_)
    | (with_reducible refine F8_x2_set ?_ _ _)
    | (with_reducible refine F8_x2_by ?_ _ _)
    | (with_reducible refine F8_x2_added ?_ _ _ _)
    | (with_reducible refine F8_x2_taken ?_ _ _ _)
    | (with_reducible refine F8_x2_takenOn ?_ _ _)
    | (with_reducible refine F8_x2_logic ?_ _)
    | (with_reducible refine F8_x2_product ?_ _ _)
    | (with_reducible refine F8_x2_next ?_)
    | (with_reducible refine F8_x2_skip ?_ _)
    | (with_reducible refine F8_x2_constant ?_ _)
    | (with_reducible refine F8_x2_pairs ?_ _)
    | (with_reducible refine F8_x2_twoRegisters ?_ _)
    | (with_reducible refine F8_x2_move ?_ _ _)
    | (with_reducible refine F8_x2_displaced ?_ _)
    | (with_reducible refine F8_x2_moved ?_ _ _)
    | (with_reducible refine F8_x2_portBits ?_ _)
    | (with_reducible refine F8_x2_ports ?_ _)
    | (with_reducible refine F8_x2_words ?_ _)
    | (with_reducible refine F8_x2_shifted ?_ _ _)
    | (with_reducible refine F8_x2_indirect ?_ _)
    | (with_reducible refine F8_x2_alone ?_ _ _)
    | (with_reducible refine F8_x2_one ?_ _ _)
    | (with_reducible refine F8_x2_bits ?_ _)
    | (with_reducible refine F8_x2_nine ?_ _ _)
    | (with_reducible refine Fr_k ?_ (by decide))
    | (with_reducible refine Fr_0 ?_ (by decide))
    | with_reducible refine Fr_iter' ?_ ?_
    | with_reducible refine Fr_ite ?_ ?_
    | with_reducible refine FrP_ite ?_ ?_
    | with_reducible refine Fr_ltS ?_ ?_
    | with_reducible refine Fr_ltP ?_ ?_
    | with_reducible refine Fr_lti ?_
    | with_reducible refine FrP_ltS ?_ ?_
    | with_reducible refine FrP_ltP ?_ ?_
    | with_reducible refine FrP_lti ?_
    | with_reducible refine FrP_i ?_)
theorem F8_x2_reset {c : Int32} {s : Sg} (h : Fr 8 c s) (x1 : Int32) : Fr 8 c (x2_reset s x1) := by
  unfold x2_reset
  repeat' (first
    | assumption
    | (intro i s h)
    | (intro v s h)
    | (intro s h)
    | (intro x)
    | (with_reducible refine F8_x4_store ?_ _ _)
    | (with_reducible refine F8_x4_clear ?_)
    | (with_reducible refine F8_x11_clear ?_)
    | (with_reducible refine F8_x5_store ?_ _ _)
    | (with_reducible refine F8_x5_cycle ?_)
    | (with_reducible refine F8_x5_clear ?_)
    | (with_reducible refine F8_x6_load ?_ _)
    | (with_reducible refine F8_x6_store ?_ _ _)
    | (with_reducible refine F8_x6_receive ?_)
    | (with_reducible refine F8_x6_cycle ?_)
    | (with_reducible refine F8_x6_add ?_ _)
    | (with_reducible refine F8_x6_clear ?_)
    | (with_reducible refine F8_x7_store ?_ _ _)
    | (with_reducible refine F8_x7_cycle ?_)
    | (with_reducible refine F8_x7_clear ?_)
    | (with_reducible refine F8_x8_store ?_ _ _)
    | (with_reducible refine F8_x8_shorter ?_)
    | (with_reducible refine F8_x8_cycle ?_)
    | (with_reducible refine F8_x8_clear ?_)
    | (with_reducible refine F8_x9_store ?_ _ _)
    | (with_reducible refine F8_x9_cycle ?_)
    | (with_reducible refine F8_x9_clear ?_)
    | (with_reducible refine F8_x3_store ?_ _ _)
    | (with_reducible refine F8_x10_empty ?_)
    | (with_reducible refine F8_x10_store ?_ _ _)
    | (with_reducible refine F8_x10_done ?_)
    | (with_reducible refine F8_x10_cycle ?_)
    | (with_reducible refine F8_x10_read ?_ _ _)
    | (with_reducible refine F8_x10_page ?_ _ _)
    | (with_reducible refine F8_x10_stores ?_ _ _)
    | (with_reducible refine F8_x10_clear ?_)
    | (with_reducible refine F8_x2_toPair ?_ _ _)
    | (with_reducible refine F8_x2_toStack ?_ _)
    | (with_reducible refine F8_x2_load ?_ _)
    | (with_reducible refine F8_x2_store ?_ _ _)
    | (with_reducible refine F8_x2_push ?_ _)
    | (with_reducible refine F8_x2_pop ?_)
    | (with_reducible refine F8_x2_go ?_ _)
    | (with_reducible refine F8_x2_pushPlace ?_)
    | (with_reducible refine F8_x2_popPlace ?_)
    | (with_reducible refine F8_x2_set ?_ _ _)
    | (with_reducible refine F8_x2_by ?_ _ _)
    | (with_reducible refine F8_x2_added ?_ _ _ _)
    | (with_reducible refine F8_x2_taken ?_ _ _ _)
    | (with_reducible refine F8_x2_takenOn ?_ _ _)
    | (with_reducible refine F8_x2_logic ?_ _)
    | (with_reducible refine F8_x2_product ?_ _ _)
    | (with_reducible refine F8_x2_next ?_)
    | (with_reducible refine F8_x2_skip ?_ _)
    | (with_reducible refine F8_x2_constant ?_ _)
    | (with_reducible refine F8_x2_pairs ?_ _)
    | (with_reducible refine F8_x2_twoRegisters ?_ _)
    | (with_reducible refine F8_x2_move ?_ _ _)
    | (with_reducible refine F8_x2_displaced ?_ _)
    | (with_reducible refine F8_x2_moved ?_ _ _)
    | (with_reducible refine F8_x2_portBits ?_ _)
    | (with_reducible refine F8_x2_ports ?_ _)
    | (with_reducible refine F8_x2_words ?_ _)
    | (with_reducible refine F8_x2_shifted ?_ _ _)
    | (with_reducible refine F8_x2_indirect ?_ _)
    | (with_reducible refine F8_x2_alone ?_ _ _)
    | (with_reducible refine F8_x2_one ?_ _ _)
    | (with_reducible refine F8_x2_bits ?_ _)
    | (with_reducible refine F8_x2_nine ?_ _ _)
    | (with_reducible refine F8_x2_instruction ?_)
    | (with_reducible refine Fr_k ?_ (by decide))
    | (with_reducible refine Fr_0 ?_ (by decide))
    | with_reducible refine Fr_iter' ?_ ?_
    | with_reducible refine Fr_ite ?_ ?_
    | with_reducible refine FrP_ite ?_ ?_
    | with_reducible refine Fr_ltS ?_ ?_
    | with_reducible refine Fr_ltP ?_ ?_
    | with_reducible refine Fr_lti ?_
    | with_reducible refine FrP_ltS ?_ ?_
    | with_reducible refine FrP_ltP ?_ ?_
    | with_reducible refine FrP_lti ?_
    | with_reducible refine FrP_i ?_)
theorem F8_x2_entry {c : Int32} {s : Sg} (h : Fr 8 c s) (x1 : Int32) : Fr 8 c (x2_entry s x1) := by
  unfold x2_entry
  repeat' (first
    | assumption
    | (intro i s h)
    | (intro v s h)
    | (intro s h)
    | (intro x)
    | (with_reducible refine F8_x4_store ?_ _ _)
    | (with_reducible refine F8_x4_clear ?_)
    | (with_reducible refine F8_x11_clear ?_)
    | (with_reducible refine F8_x5_store ?_ _ _)
    | (with_reducible refine F8_x5_cycle ?_)
    | (with_reducible refine F8_x5_clear ?_)
    | (with_reducible refine F8_x6_load ?_ _)
    | (with_reducible refine F8_x6_store ?_ _ _)
    | (with_reducible refine F8_x6_receive ?_)
    | (with_reducible refine F8_x6_cycle ?_)
    | (with_reducible refine F8_x6_add ?_ _)
    | (with_reducible refine F8_x6_clear ?_)
    | (with_reducible refine F8_x7_store ?_ _ _)
    | (with_reducible refine F8_x7_cycle ?_)
    | (with_reducible refine F8_x7_clear ?_)
    | (with_reducible refine F8_x8_store ?_ _ _)
    | (with_reducible refine F8_x8_shorter ?_)
    | (with_reducible refine F8_x8_cycle ?_)
    | (with_reducible refine F8_x8_clear ?_)
    | (with_reducible refine F8_x9_store ?_ _ _)
    | (with_reducible refine F8_x9_cycle ?_)
    | (with_reducible refine F8_x9_clear ?_)
    | (with_reducible refine F8_x3_store ?_ _ _)
    | (with_reducible refine F8_x10_empty ?_)
    | (with_reducible refine F8_x10_store ?_ _ _)
    | (with_reducible refine F8_x10_done ?_)
    | (with_reducible refine F8_x10_cycle ?_)
    | (with_reducible refine F8_x10_read ?_ _ _)
    | (with_reducible refine F8_x10_page ?_ _ _)
    | (with_reducible refine F8_x10_stores ?_ _ _)
    | (with_reducible refine F8_x10_clear ?_)
    | (with_reducible refine F8_x2_toPair ?_ _ _)
    | (with_reducible refine F8_x2_toStack ?_ _)
    | (with_reducible refine F8_x2_load ?_ _)
    | (with_reducible refine F8_x2_store ?_ _ _)
    | (with_reducible refine F8_x2_push ?_ _)
    | (with_reducible refine F8_x2_pop ?_)
    | (with_reducible refine F8_x2_go ?_ _)
    | (with_reducible refine F8_x2_pushPlace ?_)
    | (with_reducible refine F8_x2_popPlace ?_)
    | (with_reducible refine F8_x2_set ?_ _ _)
    | (with_reducible refine F8_x2_by ?_ _ _)
    | (with_reducible refine F8_x2_added ?_ _ _ _)
    | (with_reducible refine F8_x2_taken ?_ _ _ _)
    | (with_reducible refine F8_x2_takenOn ?_ _ _)
    | (with_reducible refine F8_x2_logic ?_ _)
    | (with_reducible refine F8_x2_product ?_ _ _)
    | (with_reducible refine F8_x2_next ?_)
    | (with_reducible refine F8_x2_skip ?_ _)
    | (with_reducible refine F8_x2_constant ?_ _)
    | (with_reducible refine F8_x2_pairs ?_ _)
    | (with_reducible refine F8_x2_twoRegisters ?_ _)
    | (with_reducible refine F8_x2_move ?_ _ _)
    | (with_reducible refine F8_x2_displaced ?_ _)
    | (with_reducible refine F8_x2_moved ?_ _ _)
    | (with_reducible refine F8_x2_portBits ?_ _)
    | (with_reducible refine F8_x2_ports ?_ _)
    | (with_reducible refine F8_x2_words ?_ _)
    | (with_reducible refine F8_x2_shifted ?_ _ _)
    | (with_reducible refine F8_x2_indirect ?_ _)
    | (with_reducible refine F8_x2_alone ?_ _ _)
    | (with_reducible refine F8_x2_one ?_ _ _)
    | (with_reducible refine F8_x2_bits ?_ _)
    | (with_reducible refine F8_x2_nine ?_ _ _)
    | (with_reducible refine F8_x2_instruction ?_)
    | (with_reducible refine F8_x2_reset ?_ _)
    | (with_reducible refine Fr_k ?_ (by decide))
    | (with_reducible refine Fr_0 ?_ (by decide))
    | with_reducible refine Fr_iter' ?_ ?_
    | with_reducible refine Fr_ite ?_ ?_
    | with_reducible refine FrP_ite ?_ ?_
    | with_reducible refine Fr_ltS ?_ ?_
    | with_reducible refine Fr_ltP ?_ ?_
    | with_reducible refine Fr_lti ?_
    | with_reducible refine FrP_ltS ?_ ?_
    | with_reducible refine FrP_ltP ?_ ?_
    | with_reducible refine FrP_lti ?_
    | with_reducible refine FrP_i ?_)
theorem F8_x2_passL {c : Int32} (x1 : Int32) : ∀ (n : Nat) (s : Sg) (v : Int32), Fr 8 c s → FrP 8 c (x2_passL n s x1 v) := by
  intro n
  induction n with
  | zero => intro s v h; exact h
  | succ n ih =>
    intro s v h
    unfold x2_passL
    refine FrP_ite ?_ (FrP_i h)
    refine FrP_lti (fun v7 => ?_)
    refine FrP_ltS (Fr_0 h (by decide)) (fun s h => ?_)
    refine FrP_ltS (F8_x10_cycle h) (fun s h => ?_)
    refine FrP_ltS (F8_x8_shorter h) (fun s h => ?_)
    refine FrP_ltS (F8_x9_cycle h) (fun s h => ?_)
    refine FrP_ltS (F8_x7_cycle h) (fun s h => ?_)
    refine FrP_ltS (F8_x5_cycle h) (fun s h => ?_)
    refine FrP_ltS (F8_x6_cycle h) (fun s h => ?_)
    refine FrP_ltS (F8_x8_cycle h) (fun s h => ?_)
    refine FrP_ite (ih _ _ h) ?_
    refine FrP_ltS (Fr_0 h (by decide)) (fun s h => ?_)
    exact FrP_ltS (F8_x2_reset h _) (fun s h => FrP_i h)
theorem F8_x2_step {c : Int32} {s : Sg} (h : Fr 8 c s) : FrP 8 c (x2_step s) := by
  unfold x2_step
  refine FrP_ite (FrP_i h) ?_
  refine FrP_ltS (Fr_0 h (by decide)) (fun s h => ?_)
  refine FrP_lti (fun v => ?_)
  refine FrP_ltS (Fr_0 h (by decide)) (fun s h => ?_)
  refine FrP_lti (fun w => ?_)
  refine FrP_ltS (Fr_0 h (by decide)) (fun s h => ?_)
  refine FrP_ltP ?_ (fun a s h => ?_)
  · refine FrP_ite ?_ (FrP_ite ?_ (FrP_i h))
    · refine FrP_ltS (F8_x2_entry h _) (fun s h => ?_)
      exact FrP_ltS (Fr_0 h (by decide)) (fun s h => FrP_i h)
    · exact FrP_ltP (F8_x2_instruction h) (fun v s h => FrP_i h)
  · exact FrP_ltP (F8_x2_passL _ _ _ _ h) (fun v s h => FrP_i h)
