/-! PLAIN LAW 27: the timer and the line -/
set_option maxRecDepth 100000
theorem rem8 {x : Int32} (h : rg 0 1023 x) {d k : Int32} {n : Nat} (hd : d = nI n) (hn : 0 < n) (hn2 : n < 2 ^ 31) (hk : (x &&& k).toInt = x.toInt % (n : Int)) : (x - x / d * d = 0) ↔ (x &&& k = 0) := by
  obtain ⟨e, e2⟩ := rg_nI h
  have h2 := h.2
  have q := pk_rem (a := x.toNatClampNeg) (d := n) (by omega) hn hn2
  rw [← e, ← hd] at q
  have q2 : x - x / d * d = nI (x.toNatClampNeg % n) := q
  have h3 : x.toNatClampNeg % n ≤ x.toNatClampNeg := Nat.mod_le _ _
  have h4 : ((x.toNatClampNeg % n : Nat) : Int) = x.toInt % (n : Int) := by rw [Int.natCast_emod, e2]
  rw [q2, i_eq, i_eq, ti0, hk, nI_toInt (by omega), h4]
theorem R_timer {b : Bool} {σ τ : Sg} (h : R b σ τ) (ok : XOK σ) : R b (x5_cycle σ) (m_timer τ) := by
  unfold x5_cycle m_timer
  rw [← h.sc 10 rfl]
  have r10 : rg 0 1023 (((σ 0 10) + 1) &&& 1023) := rg_and_r (rg_w rl_1023 (by decide) (by decide))
  have h1 : R b (sst σ 0 10 (((σ 0 10) + 1) &&& 1023)) (sst τ 0 10 (((σ 0 10) + 1) &&& 1023)) := R_scal h rfl rfl (fun q => by cases q)
  have e10 : (sst σ 0 10 (((σ 0 10) + 1) &&& 1023)) 0 10 = (((σ 0 10) + 1) &&& 1023) := sst_eq _ _ _ _
  have o1 : XOK (sst σ 0 10 (((σ 0 10) + 1) &&& 1023)) := xst_f0_10 ok
  rw [← e10] at r10
  refine ltl_R (ltr_R ?_)
  clear e10
  revert h1 r10 o1
  generalize sst σ 0 10 (((σ 0 10) + 1) &&& 1023) = s
  generalize sst τ 0 10 (((σ 0 10) + 1) &&& 1023) = t
  intro r10 h1 o1
  have et : x5_ticks s = (if ((((t 1 69) &&& 7) = 1) ∨ (((((t 1 69) &&& 7) = 2) ∧ ((((t 0 10)) - ((t 0 10)) / (8) * (8)) = 0)) ∨ (((((t 1 69) &&& 7) = 3) ∧ ((((t 0 10)) - ((t 0 10)) / (64) * (64)) = 0)) ∨ (((((t 1 69) &&& 7) = 4) ∧ ((((t 0 10)) - ((t 0 10)) / (256) * (256)) = 0)) ∨ ((((t 1 69) &&& 7) = 5) ∧ ((t 0 10) = 0)))))) then 1 else 0) := by
    unfold x5_ticks
    rw [← h1.da 69 rfl, ← h1.sc 10 rfl]
    have a8 := rem8 r10 (d := 8) (k := 7) (n := 8) rfl (by decide) (by decide) (and7 _)
    have a64 := rem8 r10 (d := 64) (k := 63) (n := 64) rfl (by decide) (by decide) (and63 _)
    have a256 := rem8 r10 (d := 256) (k := 255) (n := 256) rfl (by decide) (by decide) (and255 _)
    refine lt_l ?_
    generalize (s 1 69 &&& 7) = v
    by_cases v1 : v = 1
    · rw [if_pos v1, if_pos (Or.inl v1)]
    by_cases v2 : v = 2
    · rw [if_neg v1, if_pos v2]
      refine lt_l (ififf ?_)
      subst v2
      exact ⟨fun z => Or.inr (Or.inl ⟨rfl, a8.mpr z⟩), by
        rintro (z | ⟨_, z⟩ | ⟨z, _⟩ | ⟨z, _⟩ | ⟨z, _⟩)
        · exact absurd z (by decide)
        · exact a8.mp z
        · exact absurd z (by decide)
        · exact absurd z (by decide)
        · exact absurd z (by decide)⟩
    by_cases v3 : v = 3
    · rw [if_neg v1, if_neg v2, if_pos v3]
      refine lt_l (ififf ?_)
      subst v3
      exact ⟨fun z => Or.inr (Or.inr (Or.inl ⟨rfl, a64.mpr z⟩)), by
        rintro (z | ⟨z, _⟩ | ⟨_, z⟩ | ⟨z, _⟩ | ⟨z, _⟩)
        · exact absurd z (by decide)
        · exact absurd z (by decide)
        · exact a64.mp z
        · exact absurd z (by decide)
        · exact absurd z (by decide)⟩
    by_cases v4 : v = 4
    · rw [if_neg v1, if_neg v2, if_neg v3, if_pos v4]
      refine lt_l (ififf ?_)
      subst v4
      exact ⟨fun z => Or.inr (Or.inr (Or.inr (Or.inl ⟨rfl, a256.mpr z⟩))), by
        rintro (z | ⟨z, _⟩ | ⟨z, _⟩ | ⟨_, z⟩ | ⟨z, _⟩)
        · exact absurd z (by decide)
        · exact absurd z (by decide)
        · exact absurd z (by decide)
        · exact a256.mp z
        · exact absurd z (by decide)⟩
    by_cases v5 : v = 5
    · rw [if_neg v1, if_neg v2, if_neg v3, if_neg v4, if_pos v5]
      refine lt_l (ififf ?_)
      subst v5
      exact ⟨fun z => Or.inr (Or.inr (Or.inr (Or.inr ⟨rfl, z⟩))), by
        rintro (z | ⟨z, _⟩ | ⟨z, _⟩ | ⟨z, _⟩ | ⟨_, z⟩)
        · exact absurd z (by decide)
        · exact absurd z (by decide)
        · exact absurd z (by decide)
        · exact absurd z (by decide)
        · exact z⟩
    rw [if_neg v1, if_neg v2, if_neg v3, if_neg v4, if_neg v5, if_neg]
    rintro (z | ⟨z, _⟩ | ⟨z, _⟩ | ⟨z, _⟩ | ⟨z, _⟩)
    · exact v1 z
    · exact v2 z
    · exact v3 z
    · exact v4 z
    · exact v5 z
  refine ltr_R (ltr_R ?_)
  rw [← et]
  refine ite_R (fun _ => h1) (fun _ => ?_)
  have s53 : ∀ {S T : Sg} (f : Int32), R b S T → rg 0 3 f → R b (sst S 1 53 ((S 1 53) ||| f)) (sst T 1 53 ((T 1 53) ||| f)) := by
    intro S T f hh hf
    rw [← hh.da 53 rfl]
    exact R_da hh rfl (fun _ => rg_w (rg_or 2 hh.d53 hf (by decide) (by decide) (by decide)) (by decide) (by decide)) (fun q => absurd q (by decide)) (fun q => absurd q (by decide)) (fun q => absurd q (by decide)) (fun q => absurd q (by decide)) (fun _ _ q => by cases q)
  have s70 : ∀ {S T : Sg} (f : Int32), R b S T → R b (sst S 1 70 f) (sst T 1 70 f) := by
    intro S T f hh
    exact R_da hh rfl (fun q => absurd q (by decide)) (fun q => absurd q (by decide)) (fun q => absurd q (by decide)) (fun q => absurd q (by decide)) (fun q => absurd q (by decide)) (fun _ _ q => by cases q)
  rw [← h1.da 68 rfl, ← h1.da 70 rfl, ← h1.da 71 rfl]
  refine ltS_R (ite_R (fun _ => ?_) (fun _ => ?_)) (fun S T hh => ?_)
  · refine ltS_R (s70 _ h1) (fun S T hh => ?_)
    rw [← hh.da 70 rfl]
    exact ite_R (fun _ => ltl_R (ltr_R (s53 1 hh (rg_w rl_1 (by decide) (by decide))))) (fun _ => hh)
  · exact ltl_R (ltr_R (s70 0 h1))
  · rw [← hh.da 70 rfl, ← hh.da 71 rfl]
    refine ltl_R (ltr_R ?_)
    exact ite_R (fun _ => ltl_R (ltr_R (s53 2 hh (rg_w rl_2 (by decide) (by decide))))) (fun _ => hh)
theorem R_frame {b : Bool} {σ τ : Sg} (h : R b σ τ) : x6_frame σ = m_frame τ := by
  unfold x6_frame m_frame
  rw [← h.da 197 rfl, ← h.da 196 rfl, h.s2]
  have hc : (σ 0 33 = 0) ↔ (x6_state σ &&& 2 = 0) := by
    rw [st_v, st_is2 (st_k σ)]
    by_cases q : σ 0 33 = 0
    · rw [if_pos q]; exact ⟨fun _ => rfl, fun _ => q⟩
    · rw [if_neg q]; exact ⟨fun z => absurd z q, fun z => absurd z (by decide)⟩
  rw [ififf hc]
  refine lt_l ?_
  refine lt_l ?_
  refine lt_r ?_
  rw [Int32.add_mul, Int32.one_mul]
theorem m11 {x : Int32} (h : rg (-1) 255 x) : (x < 0) ↔ x = -1 := by
  rw [i_lt, i_eq, ti0, show (-1 : Int32).toInt = -1 by decide +kernel]
  have := h.1
  omega
theorem R_kept {b : Bool} {σ τ : Sg} (h : R b σ τ) (i : Nat) (v : Int32) : R b (sst σ 4 i v) (sst τ 4 i v) := by
  refine R_mk h.sc h.mo h.da h.fl h.er ?_ h.s2 h.ee h.e8 h.bu h.ri h.wi h.d53 h.d85 h.d87 h.dg h.un h.rs h.sf
  funext j
  rw [sst_get, sst_get, h.kp]
/-- the sender's half of the board's cycle -/
def x6a (σ : Sg) : Sg :=
  if (σ 0 13) = 0 then
    if (σ 0 11) < 0 then
      σ
    else
      lt (sst σ 0 12 (σ 0 11)) fun s19 =>
      lt (sst s19 0 11 (-1)) fun s24 =>
      lt (sst s24 0 13 (x6_frame s24)) fun s32 =>
      s32
  else
    lt (sst σ 0 13 ((σ 0 13) - 1)) fun s45 =>
    if (s45 0 13) = 0 then
      lt ((
        if (s45 0 20) < 1000 then
          lt (sst s45 4 ((s45 0 20)).toNatClampNeg (s45 0 12)) fun s77 =>
          s77
        else
          s45) : Sg) fun z62 =>
      lt (sst z62 0 20 ((z62 0 20) + 1)) fun s85 =>
      if (s85 0 11) < 0 then
        lt (sst s85 0 32 1) fun s97 =>
        s97
      else
        s85
    else
      s45
theorem x6c_eq (σ : Sg) : x6_cycle σ = x6_receive (x6a σ) := rfl
def mla (σ : Sg) : Sg :=
  if (¬ ((σ 0 13) = 0)) ∨ ((σ 0 11) = (-1)) then
    if 0 < (σ 0 13) then
      lt (sst σ 0 13 ((σ 0 13) - 1)) fun s66 =>
      if (s66 0 13) = 0 then
        lt ((
          if (s66 0 20) < 1000 then
            lt (sst s66 4 ((s66 0 20)).toNatClampNeg (s66 0 12)) fun s98 =>
            s98
          else
            s66) : Sg) fun z83 =>
        lt (sst z83 0 20 ((z83 0 20) + 1)) fun s106 =>
        if (s106 0 11) = (-1) then
          lt (sst s106 1 192 ((s106 1 192) ||| 64)) fun s129 =>
          s129
        else
          s106
      else
        s66
    else
      σ
  else
    lt (sst σ 0 12 (σ 0 11)) fun s20 =>
    lt (sst s20 0 11 (-1)) fun s25 =>
    lt (sst s25 0 13 (m_frame s25)) fun s33 =>
    lt (sst s33 1 192 ((s33 1 192) ||| 32)) fun s48 =>
    s48
def mlb (z4 : Sg) : Sg :=
  if (z4 0 15) = 0 then
    lt ((
      if 0 < (z4 0 19) then
        lt (sst z4 0 14 (z4 6 0)) fun s151 =>
        lt (sst s151 0 19 ((s151 0 19) - 1)) fun s161 =>
        lt ((iterN ((s161 0 19)).toNatClampNeg 0 (fun i166_1 a166_1 =>
          lt (sst a166_1 6 ((nI i166_1)).toNatClampNeg (a166_1 6 (((nI i166_1) + 1)).toNatClampNeg)) fun s187 =>
          s187) s161) : Sg) fun z166 =>
        lt (sst z166 0 15 (m_frame z166)) fun s199 =>
        s199
      else
        z4) : Sg) fun z141 =>
    z141
  else
    lt (sst z4 0 15 ((z4 0 15) - 1)) fun s210 =>
    if (0 < (s210 0 15)) ∨ (((s210 1 193) &&& 16) = 0) then
      s210
    else
      if (s210 0 18) = 2 then
        lt (sst s210 1 192 ((s210 1 192) ||| 8)) fun s255 =>
        s255
      else
        lt ((
          if (s210 0 18) = 0 then
            lt (sst s210 0 16 (s210 0 14)) fun s269 =>
            s269
          else
            lt (sst s210 0 17 (s210 0 14)) fun s280 =>
            s280) : Sg) fun z261 =>
        lt (sst z261 0 18 ((z261 0 18) + 1)) fun s290 =>
        lt (m_showReceived s290) fun s294 =>
        s294
theorem ml_ab (τ : Sg) : m_line τ = mlb (mla τ) := rfl
theorem R_x6a {b : Bool} {σ τ : Sg} (h : R b σ τ) (ok : XOK σ) : R b (x6a σ) (mla τ) := by
  unfold x6a mla
  rw [← h.sc 13 rfl, ← h.sc 11 rfl]
  have c11 := m11 (xr0_11 ok)
  by_cases p : σ 0 13 = 0
  · have np : ¬ 0 < σ 0 13 := by rw [p]; decide
    rw [if_pos p]
    by_cases q : σ 0 11 < 0
    · rw [if_pos q, if_pos (Or.inr (c11.mp q)), if_neg np]; exact h
    · rw [if_neg q, if_neg (by rintro (z | z); exact z p; exact q (c11.mpr z))]
      have h2 : R b (sst σ 0 12 (σ 0 11)) (sst τ 0 12 (σ 0 11)) := R_scal h rfl rfl (fun q => by cases q)
      have of : rg 80 655360 (x6_frame (sst σ 0 12 (σ 0 11))) := ok_x6_frame _ (xst_f0_12 ok)
      refine ltl_R (ltr_R ?_)
      revert h2 of
      generalize sst σ 0 12 (σ 0 11) = s
      generalize sst τ 0 12 (σ 0 11) = t
      intro h2 of
      have f1 : x6_frame (sst s 0 11 (-1)) = x6_frame s := rfl
      have f2 : m_frame (sst t 0 11 (-1)) = m_frame t := rfl
      rw [lt_g (sst s 0 11 (-1)), lt_g (sst t 0 11 (-1)), f1, f2, ← R_frame h2]
      have h3 := R_11m h2
      have e : sst (sst (sst t 0 11 (-1)) 0 13 (x6_frame s)) 1 192 (((sst (sst t 0 11 (-1)) 0 13 (x6_frame s)) 1 192) ||| 32) = sst (sst (sst t 0 11 (-1)) 1 192 (((sst t 0 11 (-1)) 1 192) ||| 32)) 0 13 (x6_frame s) := by
        rw [sst_ne_k (sst t 0 11 (-1)) _ (by decide)]
        exact sst_comm _ _ _ (by decide)
      refine ltl_R (ltr_R (ltr_R ?_))
      rw [e]
      exact R_scal h3 rfl rfl (fun _ => by have := of.1; omega)
  · have pp : 0 < σ 0 13 := (pos_iff (h.wi 13 rfl)).mpr p
    rw [if_neg p, if_pos (Or.inl p), if_pos pp]
    have h2 := R_dec h (j := 13) rfl pp
    have o2 : XOK (sst σ 0 13 ((σ 0 13) - 1)) := xst_f0_13 ok
    refine ltl_R (ltr_R ?_)
    revert h2 o2
    generalize sst σ 0 13 ((σ 0 13) - 1) = s
    generalize sst τ 0 13 ((σ 0 13) - 1) = t
    intro h2 o2
    rw [← h2.sc 13 rfl]
    refine ite_R (fun _ => ?_) (fun _ => h2)
    rw [← h2.sc 20 rfl, ← h2.sc 12 rfl]
    have h3 : R b (if (s 0 20) < 1000 then lt (sst s 4 ((s 0 20)).toNatClampNeg (s 0 12)) fun s77 => s77 else s) (if (s 0 20) < 1000 then lt (sst t 4 ((s 0 20)).toNatClampNeg (s 0 12)) fun s98 => s98 else t) := ite_R (fun _ => ltl_R (ltr_R (R_kept h2 _ _))) (fun _ => h2)
    have o3 : (if (s 0 20) < 1000 then lt (sst s 4 ((s 0 20)).toNatClampNeg (s 0 12)) fun s77 => s77 else s) 0 11 = s 0 11 := by
      by_cases q : (s 0 20) < 1000
      · rw [if_pos q]; rfl
      · rw [if_neg q]
    revert h3 o3
    generalize (if (s 0 20) < 1000 then lt (sst s 4 ((s 0 20)).toNatClampNeg (s 0 12)) fun s77 => s77 else s) = s3
    generalize (if (s 0 20) < 1000 then lt (sst t 4 ((s 0 20)).toNatClampNeg (s 0 12)) fun s98 => s98 else t) = t3
    intro h3 o3
    refine ltl_R (ltr_R ?_)
    rw [← h3.sc 20 rfl]
    have h4 : R b (sst s3 0 20 ((s3 0 20) + 1)) (sst t3 0 20 ((s3 0 20) + 1)) := R_scal h3 rfl rfl (fun q => by cases q)
    have c4 : ((sst s3 0 20 ((s3 0 20) + 1)) 0 11 < 0) ↔ ((sst t3 0 20 ((s3 0 20) + 1)) 0 11 = -1) := by
      rw [← h4.sc 11 rfl, sst_ne_j s3 _ (by decide), o3]
      exact m11 (xr0_11 o2)
    revert h4 c4
    generalize (sst s3 0 20 ((s3 0 20) + 1)) = s4
    generalize (sst t3 0 20 ((s3 0 20) + 1)) = t4
    intro h4 c4
    refine ltl_R (ltr_R ?_)
    exact ite_R2 c4 (fun _ => ltl_R (ltr_R (R_32s h4))) (fun _ => h4)
