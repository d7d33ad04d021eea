/-! PLAIN LAW 20: the flash written -/
set_option maxRecDepth 100000
theorem iter_rel {α β : Type} (Q : α → β → Prop) {f : Nat → α → α} {g : Nat → β → β} {N : Nat} (hf : ∀ i a b, i < N → Q a b → Q (f i a) (g i b)) : ∀ (n i : Nat) (a : α) (b : β), i + n ≤ N → Q a b → Q (iterN n i f a) (iterN n i g b) := by
  intro n
  induction n with
  | zero => intro i a b _ h; exact h
  | succ n ih => intro i a b hi h; exact ih (i + 1) _ _ (by omega) (hf i a b (by omega) h)
theorem tn_nI {i : Nat} (h : i < 2 ^ 31) : (nI i).toNatClampNeg = i := by
  show (nI i).toInt.toNat = i
  rw [nI_toInt h]; rfl
theorem iter_fill (k : Nat) (c : Int32) : ∀ (n i : Nat) (σ : Sg), i + n < 2 ^ 31 → iterN n i (fun i a => lt (sst a k (nI i).toNatClampNeg c) fun s => s) σ = fun a j => if a = k ∧ i ≤ j ∧ j < i + n then c else σ a j := by
  intro n
  induction n with
  | zero => intro i σ _; funext a j; show σ a j = _; rw [if_neg (by omega)]
  | succ n ih =>
    intro i σ hi
    show iterN n (i + 1) _ (sst σ k (nI i).toNatClampNeg c) = _
    rw [ih (i + 1) _ (by omega), tn_nI (by omega)]
    funext a j
    rw [sst_get]
    by_cases h1 : a = k
    · by_cases h2 : j = i
      · rw [if_neg (by omega), if_pos ⟨h1, h2⟩, if_pos ⟨h1, by omega, by omega⟩]
      · rw [if_neg (c := a = k ∧ j = i) (fun z => h2 z.2)]
        by_cases h3 : i + 1 ≤ j ∧ j < i + 1 + n
        · rw [if_pos ⟨h1, h3⟩, if_pos ⟨h1, by omega, by omega⟩]
        · rw [if_neg (fun z => h3 z.2), if_neg (fun z => h3 ⟨by omega, by omega⟩)]
    · rw [if_neg (fun z => h1 z.1), if_neg (fun z => h1 z.1), if_neg (fun z => h1 z.1)]
theorem empty_eq (σ : Sg) : x10_empty σ = fun a j => if a = 5 ∧ 0 ≤ j ∧ j < 0 + 32 then -1 else σ a j := by
  unfold x10_empty
  exact lt_l (iter_fill 5 (-1) 32 0 σ (by decide))
theorem clear_eq (σ : Sg) : m_clearBuffer σ = fun a j => if a = 7 ∧ 0 ≤ j ∧ j < 0 + 32 then 0 else σ a j := by
  unfold m_clearBuffer
  exact lt_l (iter_fill 7 0 32 0 σ (by decide))
theorem R_empty {b : Bool} {σ τ : Sg} (h : R b σ τ) : R b (x10_empty σ) (m_clearBuffer τ) := by
  rw [empty_eq, clear_eq]
  have e : ∀ (k c : Int32) (p q : Nat) (s : Sg) (a : Nat), a ≠ p → (fun j => if a = p ∧ 0 ≤ j ∧ j < 0 + 32 then c else s a j) = s a := by
    intro k c p q s a ha; funext j; rw [if_neg (fun z => ha z.1)]
  have x : ∀ a, a ≠ 5 → (fun j => if a = 5 ∧ 0 ≤ j ∧ j < 0 + 32 then (-1 : Int32) else σ a j) = σ a := fun a ha => e 0 (-1) 5 0 σ a ha
  have y : ∀ a, a ≠ 7 → (fun j => if a = 7 ∧ 0 ≤ j ∧ j < 0 + 32 then (0 : Int32) else τ a j) = τ a := fun a ha => e 0 0 7 0 τ a ha
  have x0 := x 0 (by decide); have x1 := x 1 (by decide); have x2 := x 2 (by decide); have x3 := x 3 (by decide); have x4 := x 4 (by decide); have x6 := x 6 (by decide)
  have y0 := y 0 (by decide); have y1 := y 1 (by decide); have y2 := y 2 (by decide); have y3 := y 3 (by decide); have y4 := y 4 (by decide); have y5 := y 5 (by decide); have y6 := y 6 (by decide)
  refine ⟨?_, ?_, ?_, x2.trans (h.fl.trans y2.symm), x3.trans (h.er.trans y3.symm), x4.trans (h.kp.trans y4.symm), ?_, ?_, ?_, ?_, ?_, ?_, ?_, ?_, ?_, ?_, ?_, ?_, ?_⟩
  · intro j hj; exact (congrFun x0 j).trans ((h.sc j hj).trans (congrFun y0 j).symm)
  · intro q; exact (congrFun x0 1).trans ((h.mo q).trans (congrFun y0 1).symm)
  · intro j hj; exact (congrFun x1 j).trans ((h.da j hj).trans (congrFun y1 j).symm)
  · exact h.s2
  · exact h.ee
  · exact h.e8
  · intro j hj
    left
    refine ⟨?_, ?_⟩
    · show (if 5 = 5 ∧ 0 ≤ j ∧ j < 0 + 32 then (-1 : Int32) else σ 5 j) < 0
      rw [if_pos ⟨rfl, by omega, by omega⟩]; decide
    · show (if 7 = 7 ∧ 0 ≤ j ∧ j < 0 + 32 then (0 : Int32) else τ 7 j) = 0
      rw [if_pos ⟨rfl, by omega, by omega⟩]
  · exact h.ri
  · exact h.wi
  · exact h.d53
  · exact h.d85
  · exact h.d87
  · exact h.dg
  · exact h.un
  · exact h.rs
  · exact h.sf
theorem R_fl {b : Bool} {σ τ : Sg} (h : R b σ τ) (i : Nat) (v : Int32) : R b (sst σ 2 i v) (sst τ 2 i v) := by
  refine R_mk h.sc h.mo h.da ?_ h.er h.kp h.s2 h.ee h.e8 h.bu h.ri h.wi h.d53 h.d85 h.d87 h.dg h.un h.rs h.sf
  funext j
  rw [sst_get, sst_get, h.fl]
theorem char_id {x : Int32} (h : rg 0 65535 x) : (x.toUInt32 % 65536).toInt32 = x := by
  obtain ⟨e, e2⟩ := rg_nI h
  rw [pk_char]
  have h2 := h.2
  have h3 := toInt_cases x
  refine i_eq.mpr ?_
  rw [nI_toInt (by omega)]
  have := h.1
  omega
def RF (b : Bool) (σ τ : Sg) : Prop := R b σ τ ∧ (∀ j, rg 0 65535 (σ 2 j)) ∧ rg 0 255 (σ 1 87)
theorem page_loop {b : Bool} (p x2 : Int32) (i : Nat) (a c : Sg) (hi : i < 32) (h : RF b a c) : RF b
    (lt ((if x2 = 0 then (if (a 5 ((nI i)).toNatClampNeg) < 0 then a else lt ((p + (nI i)) : Int32) fun v92 => lt (sst a 2 (v92).toNatClampNeg ((((a 2 (v92).toNatClampNeg) &&& (a 5 ((nI i)).toNatClampNeg))).toUInt32 % 65536).toInt32) fun s103 => s103) else lt (sst a 2 ((p + (nI i))).toNatClampNeg 65535) fun s67 => s67) : Sg) fun z51 => z51)
    (lt ((if x2 = 0 then (if (c 7 ((nI i)).toNatClampNeg) = 0 then c else lt ((p + (nI i)) : Int32) fun v80 => lt (sst c 2 (v80).toNatClampNeg ((c 2 (v80).toNatClampNeg) &&& (c 5 ((nI i)).toNatClampNeg))) fun s90 => s90) else lt (sst c 2 ((p + (nI i))).toNatClampNeg 65535) fun s58 => s58) : Sg) fun z45 => z45) := by
  obtain ⟨h, hw, h87⟩ := h
  have hb := h.bu i hi
  have hset : ∀ (n : Nat) (v : Int32), rg 0 65535 v → RF b (sst a 2 n v) (sst c 2 n v) := by
    intro n v hv
    refine ⟨R_fl h n v, fun j => ?_, h87⟩
    rw [sst_get]; split
    · exact hv
    · exact hw j
  show RF b (if x2 = 0 then _ else _) (if x2 = 0 then _ else _)
  by_cases q : x2 = 0
  · rw [if_pos q, if_pos q, tn_nI (by omega)]
    rcases hb with ⟨h1, h2⟩ | ⟨h1, h2, h3⟩
    · rw [if_pos h1, if_pos h2]; exact ⟨h, hw, h87⟩
    · rw [if_neg h1, if_neg (by rw [h2]; decide)]
      show RF b (sst a 2 _ _) (sst c 2 _ _)
      have hv : rg 0 65535 ((a 2 ((p + nI i)).toNatClampNeg) &&& (a 5 i)) := rg_and_l (hw _)
      rw [char_id hv, ← h3, ← h.fl]
      exact hset _ _ hv
  · rw [if_neg q, if_neg q]
    exact hset _ _ (rg_w rl_65535 (by decide) (by decide))
theorem R_done' {b : Bool} {σ τ : Sg} (h : R b σ τ) (r : rg 0 255 (σ 1 87)) : R b (x10_done σ) (sst τ 1 87 ((τ 1 87) &&& 224)) := by
  unfold x10_done
  refine ltl_R ?_
  rw [byte_and (p := -32) (q := 224) r (by decide), h.da 87 rfl]
  refine R_da h rfl (fun q => absurd q (by decide)) (fun q => absurd q (by decide)) (fun _ => ?_) (fun q => absurd q (by decide)) (fun q => absurd q (by decide)) (fun _ _ q => by cases q)
  have h2 := h.d87
  rw [h.da 87 rfl] at h2
  rw [bit_mask _ 5 (by decide) (by decide +kernel)] at h2 ⊢
  rw [gl_and, h2]; rfl
theorem empty_87 (σ : Sg) : (x10_empty σ) 1 87 = σ 1 87 := by rw [empty_eq]; rfl
theorem or64_32 {w : Int32} (h : w &&& 32 = 0) : (w ||| 64) &&& 32 = 0 := by
  rw [bit_mask _ 5 (by decide) (by decide +kernel)] at h ⊢
  rw [gl_or, h]
  decide +kernel
theorem R_page {b : Bool} {σ τ : Sg} (h : R b σ τ) (ok : XOK σ) (p x2 : Int32) : R b (x10_page σ p x2) (lt (m_writes τ (32 * p) x2) fun z => if z.1 = 0 then lt (sst z.2 1 87 ((z.2 1 87) &&& 224)) fun s => s else z.2) := by
  unfold x10_page m_writes
  rw [Int32.mul_comm p 32, h.sc 28 rfl]
  generalize 32 * p = P
  rw [lt_as]
  refine ltl_R (ltr_R ?_)
  generalize (if P < 1536 then (0 : Int32) else 1) = z7
  rw [lt_as]
  refine ltl_R (ltr_R ?_)
  by_cases c : ((τ 0 28 >>> ((if z7 = 0 then (0 : Int32) else 2) &&& 31)) &&& 1) = 0
  · rw [if_pos c, if_pos c]
    refine ltl_R (ltr_R ?_)
    show R b _ (if (0 : Int32) = 0 then _ else _)
    rw [if_pos rfl]
    exact ltr_R (R_done' h (xr_1 ok 87))
  · rw [if_neg c, if_neg c, lt_as]
    have hl := iter_rel (RF b) (fun i a c hi h => page_loop P x2 i a c hi h) 32 0 σ τ (by decide) ⟨h, xr_2 ok, xr_1 ok 87⟩
    refine ltl_R (ltr_R ?_)
    revert hl
    generalize iterN 32 0 _ σ = s
    generalize iterN 32 0 _ τ = t
    intro hl
    obtain ⟨h, hw, h87⟩ := hl
    rw [lt_as]
    have h2 : R b (if x2 = 0 then lt (x10_empty s) fun s => s else s) (if x2 = 0 then lt (m_clearBuffer t) fun s => s else t) := ite_R (fun _ => R_empty h) (fun _ => h)
    have h3 : rg 0 255 ((if x2 = 0 then lt (x10_empty s) fun s => s else s) 1 87) := by
      by_cases q : x2 = 0
      · rw [if_pos q]; rw [lt_g (x10_empty s), empty_87]; exact h87
      · rw [if_neg q]; exact h87
    refine ltl_R (ltr_R ?_)
    revert h2 h3
    generalize (if x2 = 0 then lt (x10_empty s) fun s => s else s) = s2
    generalize (if x2 = 0 then lt (m_clearBuffer t) fun s => s else t) = t2
    intro h2 h3
    refine ltl_R ?_
    by_cases q : z7 = 0
    · rw [if_pos q, if_pos q]
      refine ltr_R ?_
      show R b _ (if (1 : Int32) = 0 then _ else sst (sst t2 1 87 ((t2 1 87) ||| 64)) 0 27 8000)
      rw [if_neg (by decide), ← h2.da 87 rfl]
      refine ltl_R (ltl_R ?_)
      exact R_scal (R_da h2 rfl (fun q => absurd q (by decide)) (fun q => absurd q (by decide)) (fun _ => or64_32 h2.d87) (fun q => absurd q (by decide)) (fun q => absurd q (by decide)) (fun _ _ q => by cases q)) rfl rfl (fun _ => by decide +kernel)
    · rw [if_neg q, if_neg q]
      refine ltr_R ?_
      show R b _ (if (0 : Int32) = 0 then sst (sst t2 0 1 ((t2 0 1) + 8000)) 1 87 ((t2 1 87) &&& 224) else _)
      rw [if_pos rfl, sst_comm t2 _ _ (by decide)]
      refine ltl_R (ltl_R ?_)
      exact R_more' (R_done' h2 h3) 8000
