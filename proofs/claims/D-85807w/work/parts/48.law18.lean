/-! PLAIN LAW 18: bits of ports -/
set_option maxRecDepth 100000
theorem ite_P2 {b : Bool} {c e : Prop} [Decidable c] [Decidable e] {s s' t t' : Int32 × Sg} (hc : c ↔ e) (h1 : c → RP b s t) (h2 : ¬ c → RP b s' t') : RP b (if c then s else s') (if e then t else t') := by
  by_cases h : c
  · rw [if_pos h, if_pos (hc.mp h)]; exact h1 h
  · rw [if_neg h, if_neg (fun z => h (hc.mpr z))]; exact h2 h
theorem ite_R2 {b : Bool} {c e : Prop} [Decidable c] [Decidable e] {s s' t t' : Sg} (hc : c ↔ e) (h1 : c → R b s t) (h2 : ¬ c → R b s' t') : R b (if c then s else s') (if e then t else t') := by
  by_cases h : c
  · rw [if_pos h, if_pos (hc.mp h)]; exact h1 h
  · rw [if_neg h, if_neg (fun z => h (hc.mpr z))]; exact h2 h
theorem bit_int' (z : Int32) {f : Int32} (m : Nat) (hm : m < 31) (hf : f.toBitVec = BitVec.twoPow 32 m) : z &&& f = 0 ↔ z.toInt / ((2 ^ m : Nat) : Int) % 2 = 0 := by
  have e := shri z (nI m) m (by
    have : ∀ k : Fin 31, ((nI k.val).toBitVec.smod 32).toNat = k.val := by decide +kernel
    exact this ⟨m, hm⟩)
  have h2 := shr1_bit z (nI m) 0 f m (by omega) (by
    have : ∀ k : Fin 31, ((nI k.val).toBitVec.smod 32).toNat = k.val := by decide +kernel
    exact this ⟨m, hm⟩) hf
  have h3 : ((z >>> nI m) &&& 1 = 1) ↔ (z.toInt / ((2 ^ m : Nat) : Int)) % 2 = 1 := by
    rw [i_eq, and1, ti1, e]
  by_cases q : z &&& f = 0
  · have : ¬ (z.toInt / ((2 ^ m : Nat) : Int)) % 2 = 1 := fun w => h2.mp (h3.mpr w) q
    exact ⟨fun _ => by omega, fun _ => q⟩
  · have : (z.toInt / ((2 ^ m : Nat) : Int)) % 2 = 1 := h3.mp (h2.mpr q)
    exact ⟨fun w => absurd w q, fun w => by omega⟩
theorem kind2 (x : Int32) : (((x >>> (8 : Int32)) &&& 3).toInt = (if x &&& 256 = 0 then 0 else 1) + (if x &&& 512 = 0 then 0 else 2)) := by
  have a := bit_int' x (f := 256) 8 (by decide) (by decide +kernel)
  have c := bit_int' x (f := 512) 9 (by decide) (by decide +kernel)
  have e1 : ((2 ^ 8 : Nat) : Int) = 256 := by decide
  have e2 : ((2 ^ 9 : Nat) : Int) = 512 := by decide
  rw [e1] at a
  rw [e2] at c
  rw [and3, shr8i]
  by_cases p : x &&& 256 = 0 <;> by_cases q : x &&& 512 = 0
  · rw [if_pos p, if_pos q]; have := a.mp p; have := c.mp q; omega
  · rw [if_pos p, if_neg q]; have := a.mp p; have : ¬ _ := fun z => q (c.mpr z); omega
  · rw [if_neg p, if_pos q]; have : ¬ _ := fun z => p (a.mpr z); have := c.mp q; omega
  · rw [if_neg p, if_neg q]; have : ¬ _ := fun z => p (a.mpr z); have : ¬ _ := fun z => q (c.mpr z); omega
theorem R_portBits {b : Bool} {σ τ : Sg} (h : R b σ τ) (ok : XOK σ) (okt : XOK τ) (x1 : Int32) : RP b (x2_portBits σ x1) (m_portBits τ x1) := by
  unfold x2_portBits m_portBits
  have ha : rg 0 65535 (32 + ((x1 >>> (3 : Int32)) &&& 31)) := rg_w (rg_add rl_32 (rg_and_r (rg_w rl_31 (by decide) (by decide) : rg 0 31 31)) (by decide) (by decide)) (by decide) (by decide)
  have hb : rg 0 255 ((1 : Int32) <<< ((x1 &&& 7) &&& 31)) := rg_bit (rg7 x1) (by decide)
  have hk := kind2 x1
  generalize (32 + ((x1 >>> (3 : Int32)) &&& 31)) = a at ha ⊢
  generalize ((1 : Int32) <<< ((x1 &&& 7) &&& 31)) = v at hb ⊢
  generalize ((x1 >>> (8 : Int32)) &&& 3) = k at hk ⊢
  refine ltl_P (ltr_P (ltl_P (ltr_P (ltl_P (ltr_P ?_)))))
  have k1 : (k &&& 1 = 0) ↔ (x1 &&& 256 = 0) := by
    rw [i_eq, and1, ti0, hk]
    by_cases p : x1 &&& 256 = 0 <;> by_cases q : x1 &&& 512 = 0 <;> simp only [p, q, if_true, if_false] <;> decide
  have t2 : (2 : Int32).toInt = 2 := by decide +kernel
  have t3 : (3 : Int32).toInt = 3 := by decide +kernel
  refine ite_P2 k1 (fun c => ?_) (fun c => ?_)
  · have p := k1.mp c
    have k2 : (k = 2) ↔ ¬ (x1 &&& 512 = 0) := by
      rw [i_eq, t2, hk, if_pos p]
      by_cases q : x1 &&& 512 = 0
      · rw [if_pos q]; exact ⟨fun z => absurd z (by decide), fun z => absurd q z⟩
      · rw [if_neg q]; exact ⟨fun _ => q, fun _ => by decide⟩
    have z0 : ((if x1 &&& 512 = 0 then (0 : Int32) else 1) = 0) ↔ ¬ (k = 2) := by
      rw [k2]
      by_cases q : x1 &&& 512 = 0
      · rw [if_pos q]; exact ⟨fun _ z => z q, fun _ => rfl⟩
      · rw [if_neg q]; exact ⟨fun z => absurd z (by decide), fun z => absurd q z⟩
    refine ltl_P ?_
    by_cases e : a = 35 ∨ a = 53
    · rw [if_pos e, if_pos e, if_neg (show ¬ (1 : Int32) = 0 by decide)]
      refine ltS_P ?_ (fun s t h => RP_i rfl h)
      by_cases q : k = 2
      · rw [if_pos q, if_neg (fun z => z0.mp z q)]
        exact ltS_R (R_store h ok ha hb) (fun s t h => h)
      · rw [if_neg q, if_pos (z0.mpr q)]; exact h
    · rw [if_neg e, if_neg e, if_pos rfl]
      have h1 := R_load h ha
      have ok1 := ok_x2_load σ a ok ha
      refine ltr_P (ltl_P ?_)
      refine RP_i rfl ?_
      refine ltl_R (ltl_R (ltr_R (ltr_R ?_)))
      rw [← h1.1]
      have e2 : (if k = 2 then ((x2_load σ a).1 ||| v) else ((x2_load σ a).1 &&& (v ^^^ (-1)))) = if (if x1 &&& 512 = 0 then (0 : Int32) else 1) = 0 then ((x2_load σ a).1 &&& (v ^^^ (-1))) else ((x2_load σ a).1 ||| v) := by
        by_cases q : k = 2
        · rw [if_pos q, if_neg (fun z => z0.mp z q)]
        · rw [if_neg q, if_pos (z0.mpr q)]
      rw [← e2]
      refine R_store h1.2 ok1.1 ha ?_
      exact rg_ite (rg_or 8 ok1.2 hb (by decide) (by decide) (by decide)) (rg_and_l ok1.2)
  · have p : ¬ (x1 &&& 256 = 0) := fun z => c (k1.mpr z)
    have e3 : (if k = 3 then (1 : Int32) else 0) = if x1 &&& 512 = 0 then 0 else 1 := by
      refine ifniff ?_
      rw [i_eq, t3, hk, if_neg p]
      by_cases q : x1 &&& 512 = 0
      · rw [if_pos q]; exact ⟨fun z => absurd z (by decide), fun z => absurd q z⟩
      · rw [if_neg q]; exact ⟨fun _ => q, fun _ => by decide⟩
    have h1 := R_load h ha
    have okt1 : XOK (m_load τ a).2 := (ok_m_load τ a okt ha).1
    refine ltl_P (ltr_P ?_)
    rw [← h1.1, e3]
    generalize (if x1 &&& 512 = 0 then (0 : Int32) else 1) = w
    refine ltl_P (ltr_P (ltl_P (ltl_P (ltl_P (ltr_P ?_)))))
    have hs := R_x2_skip h1.2 (if (if (x2_load σ a).1 &&& v = 0 then (0 : Int32) else 1) = w then 1 else 0)
    rw [skip_if _ okt1] at hs
    exact hs
