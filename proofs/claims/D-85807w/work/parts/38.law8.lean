/-! PLAIN LAW 8: constant, moves, two registers on one state -/
set_option maxRecDepth 100000
theorem rg01_0 : rg 0 1 (0 : Int32) := rg_w rl_0 (by decide) (by decide)
theorem constant_eq (σ : Sg) (ok : XOK σ) (x1 : Int32) : m_ofNumber σ x1 = x2_constant σ x1 := by
  unfold m_ofNumber x2_constant
  refine lt_e rfl (fun v9 => ?_)
  have h9 := xr_1 ok v9.toNatClampNeg
  refine lt_eq (by rw [Int32.or_comm]) (fun v22 e => ?_)
  have h22 : rg 0 255 v22 := by
    rw [e]; exact rg_or 8 (rg_and_r (rg_w rl_240 (by decide) (by decide) : rg 0 240 240)) (rg_and_r (rg_w rl_15 (by decide) (by decide) : rg 0 15 15)) (by decide) (by decide) (by decide)
  refine lt_l ?_
  refine lt_e rfl (fun v => ?_)
  refine lt_e ?_ (fun z => rfl)
  refine ite_e (fun _ => ?_) (fun _ => ite_e (fun _ => ?_) (fun _ => ite_e (fun _ => ?_) (fun _ => ite_e (fun _ => ?_) (fun _ => ite_e (fun _ => ?_) (fun _ => ?_)))))
  · rw [sub_eq0 σ h9 h22 rg01_0]
  · rw [sub_eq1 σ h9 h22]
  · rw [sub_eq0 σ h9 h22 rg01_0]
  · rw [logic_eq σ (rg_or 8 h9 h22 (by decide) (by decide) (by decide))]
  · rw [logic_eq σ (rg_and_r h22)]
  · rfl
theorem orNat {p q : Nat} (h1 : p ≤ 255) (h2 : q ≤ 255) : ((nI p <<< (8 : Int32)) ||| nI q).toInt = (p : Int) * 256 + (q : Int) := by
  have h3 : p * 2 ^ 8 ||| q = p * 2 ^ 8 + q := by
    rw [Nat.mul_comm]; exact (Nat.two_pow_add_eq_or_of_lt (by omega) _).symm
  rw [pk_shlN (8 : Int32) 8 (by decide +kernel) (by omega), nI_or, h3, nI_toInt (by omega)]
  omega
theorem orInt {a b : Int32} (ha : rg 0 255 a) (hb : rg 0 255 b) : ((a <<< (8 : Int32)) ||| b).toInt = a.toInt * 256 + b.toInt := by
  obtain ⟨e, e2⟩ := rg_nI ha
  obtain ⟨e3, e4⟩ := rg_nI hb
  have h1 := ha.2; have h2 := hb.2
  have k := orNat (p := a.toNatClampNeg) (q := b.toNatClampNeg) (by omega) (by omega)
  rw [← e, ← e3] at k
  rw [k, e2, e4]
theorem pair_lo {a b : Int32} (ha : rg 0 255 a) (hb : rg 0 255 b) : ((a <<< (8 : Int32)) ||| b) &&& 255 = b := i_eq.mpr (by
  rw [and255, orInt ha hb]; have := hb.1; have := hb.2; omega)
theorem pair_hi {a b : Int32} (ha : rg 0 255 a) (hb : rg 0 255 b) : (((a <<< (8 : Int32)) ||| b) >>> (8 : Int32)) &&& 255 = a := i_eq.mpr (by
  rw [and255, shr8i, orInt ha hb]; have := hb.1; have := hb.2; have := ha.1; have := ha.2; omega)
theorem signed_f : ∀ n : Fin 256, (if nI n.val < 128 then nI n.val else nI n.val - 256) = (nI n.val).toInt8.toInt32 := by decide +kernel
theorem signed_eq (σ : Sg) {x : Int32} (h : rg 0 255 x) : m_signed σ x = x.toInt8.toInt32 := by
  obtain ⟨e, e2⟩ := rg_nI h
  have := h.2
  unfold m_signed
  refine lt_l ?_
  rw [e]; exact signed_f ⟨x.toNatClampNeg, by omega⟩
theorem kind_f : ∀ n : Fin 1024, (((nI n.val >>> (6 : Int32)) &&& 2) ||| ((nI n.val >>> (3 : Int32)) &&& 1)) = (((((nI n.val >>> (4 : Int32)) &&& 15) &&& 8) >>> (2 : Int32)) ||| (((nI n.val &&& 15) &&& 8) >>> (3 : Int32))) := by decide +kernel
theorem kind_eq {x : Int32} (h : rg 0 1023 x) : (((x >>> (6 : Int32)) &&& 2) ||| ((x >>> (3 : Int32)) &&& 1)) = (((((x >>> (4 : Int32)) &&& 15) &&& 8) >>> (2 : Int32)) ||| (((x &&& 15) &&& 8) >>> (3 : Int32))) := by
  obtain ⟨e, e2⟩ := rg_nI h
  have := h.2
  rw [e]; exact kind_f ⟨x.toNatClampNeg, by omega⟩
theorem moves_eq (σ : Sg) (ok : XOK σ) {x1 : Int32} (hx : rg 0 1023 x1) : m_moves σ x1 = x2_pairs σ x1 := by
  unfold m_moves x2_pairs
  refine lt_eq rfl (fun v6 e6 => ?_)
  refine lt_eq rfl (fun v11 e11 => ?_)
  refine lt_e rfl (fun v16 => ?_)
  refine ite_e (fun _ => ?_) (fun _ => ite_e (fun _ => ?_) (fun _ => ite_e (fun _ => ?_) (fun _ => rfl)))
  · refine lt_l (lt_l (lt_l (lt_l ?_)))
    refine lt_r ?_
    unfold x2_toPair x2_pair
    show _ = ((1 : Int32), _)
    refine lt_pr (lt_pr ?_)
    rw [pair_lo (xr_1 ok _) (xr_1 ok _), pair_hi (xr_1 ok _) (xr_1 ok _)]
  · rw [product_eq, signed_eq σ (xr_1 ok _), signed_eq σ (xr_1 ok _)]
  · refine lt_eq rfl (fun a ea => ?_)
    refine lt_eq rfl (fun c ec => ?_)
    have ha : rg 0 255 a := by rw [ea]; exact xr_1 ok _
    have hc : rg 0 255 c := by rw [ec]; exact xr_1 ok _
    refine lt_eq (by rw [e6, e11, kind_eq hx]) (fun v ev => ?_)
    have hv : rg 0 3 v := by
      rw [ev, e6, e11, ← kind_eq hx]
      exact rg_or 2 (rg_and_r (rg_w rl_2 (by decide) (by decide) : rg 0 2 2)) (rg_and_r (rg_w rl_1 (by decide) (by decide) : rg 0 1 1)) (by decide) (by decide) (by decide)
    clear ea ec ev e6 e11
    refine lt_l (lt_l ?_)
    have ez : (if v = 0 then (0 : Int32) else 1) = if 0 < v then 1 else 0 := by
      refine ifniff ?_
      rw [i_lt, i_eq, ti0]; have := hv.1; omega
    have em : ((if v = 1 then a else m_signed σ a) * (if v = 2 then m_signed σ c else c)) = if v = 1 then a * c else if v = 2 then a.toInt8.toInt32 * c.toInt8.toInt32 else a.toInt8.toInt32 * c := by
      rw [signed_eq σ ha, signed_eq σ hc]
      by_cases h1 : v = 1
      · rw [if_pos h1, if_pos h1, if_neg (by rw [h1]; decide)]
      · rw [if_neg h1, if_neg h1]
        by_cases h2 : v = 2
        · rw [if_pos h2, if_pos h2]
        · rw [if_neg h2, if_neg h2]
    rw [em, ez]
    refine lt_r ?_
    refine lt_e rfl (fun z => ?_)
    rw [product_eq]
theorem twoRegisters_eq (σ : Sg) (ok : XOK σ) {x1 : Int32} (hx : ¬ (x1 >>> (10 : Int32)) = 0) : m_ofTwo σ x1 = x2_twoRegisters σ x1 := by
  unfold m_ofTwo x2_twoRegisters
  refine lt_e rfl (fun v6 => ?_)
  refine lt_l ?_
  refine lt_eq rfl (fun a ea => ?_)
  refine lt_eq rfl (fun c ec => ?_)
  have ha : rg 0 255 a := by rw [ea]; exact xr_1 ok _
  have hc : rg 0 255 c := by rw [ec]; exact xr_1 ok _
  clear ea ec
  refine lt_l (lt_r (lt_r ?_))
  generalize (x1 >>> (10 : Int32)) = v at hx ⊢
  rw [if_neg hx]
  refine ite_e (fun _ => ?_) (fun _ => ite_e (fun _ => ?_) (fun _ => ite_e (fun _ => ?_) (fun _ => ite_e (fun _ => ?_) (fun _ => ite_e (fun _ => ?_) (fun _ => ite_e (fun _ => ?_) (fun _ => ite_e (fun _ => ?_) (fun _ => ite_e (fun _ => ?_) (fun _ => ite_e (fun _ => ?_) (fun _ => ite_e (fun _ => ?_) (fun _ => ?_))))))))))
  · rw [sub_eq1 σ ha hc]
  · rw [sub_eq1 σ ha hc]
  · rw [add_eq σ ha hc rg01_0]
  · refine lt_r ?_
    rw [skip_if σ ok]
    rfl
  · rw [sub_eq0 σ ha hc rg01_0]
  · rw [sub_eq0 σ ha hc rg01_0]
  · rw [carry_eq, add_eq σ ha hc rg_ite01]
  · rw [logic_eq σ (rg_and_r hc)]
  · rw [logic_eq σ (rg_xor 8 ha hc (by decide) (by decide) (by decide))]
  · rw [logic_eq σ (rg_or 8 ha hc (by decide) (by decide) (by decide))]
  · rfl
