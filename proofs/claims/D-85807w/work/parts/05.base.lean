/-! BASE: the judgement Ju (a configuration: cells, locals, pc, stack, and the pure result still owed), its rows, contracts MC -/
set_option maxRecDepth 100000
abbrev Sg : Type := Nat → Nat → Int32
def sst (f : Sg) (k j : Nat) (v : Int32) : Sg := fun a => if a = k then upd (f a) j v else f a
def lt {α β : Type} (x : α) (f : α → β) : β := f x
abbrev vwCl : List vw_C := [(RX1, TX1, 1), (RX2, TX2, 19), (RX11, TX11, 1), (RX4, TX4, 2), (RX5, TX5, 2), (RX6, TX6, 17), (RX7, TX7, 4), (RX8, TX8, 3), (RX9, TX9, 2), (RX10, TX10, 7), (RX12, TX12, 39)]
def tysOf (d : Nat → ClassId) : List (ClassId × FieldType) := [(d 0, .int), (d 1, .char), (d 2, .boolean), (d 3, .object "FlashBoard$Unit"), (d 4, .long)]
def nfl : List (String × Nat × String × String × String × String) := [("FlashBoard", 100, "FlashBoard$Port", "pins", "I", "FlashBoard"), ("FlashBoard", 155, "FlashBoard$Timer", "prescaler", "I", "FlashBoard"), ("FlashBoard", 163, "FlashBoard$Line", "sending", "I", "FlashBoard"), ("FlashBoard", 166, "FlashBoard$Line", "coming", "I", "FlashBoard"), ("FlashBoard", 78, "FlashBoard$Line", "first", "I", "FlashBoard"), ("FlashBoard", 75, "FlashBoard$Line", "received", "I", "FlashBoard"), ("FlashBoard$Core", 157, "FlashBoard$Line", "isAllSent", "Z", "FlashBoard"), ("FlashBoard", 58, "FlashBoard$Line", "kept", "[I", "FlashBoard"), ("FlashBoard", 160, "FlashBoard$Line", "many", "I", "FlashBoard"), ("FlashBoard", 45, "FlashBoard$Line", "had", "I", "FlashBoard"), ("FlashBoard", 91, "FlashBoard$Eeprom", "bytes", "[I", "FlashBoard"), ("FlashBoard", 183, "FlashBoard$Eeprom", "window", "I", "FlashBoard"), ("FlashBoard", 169, "FlashBoard$Eeprom", "writes", "I", "FlashBoard"), ("FlashBoard$Core", 151, "FlashBoard$Eeprom", "writes", "I", "FlashBoard"), ("FlashBoard", 175, "FlashBoard$Watchdog", "window", "I", "FlashBoard"), ("FlashBoard", 146, "FlashBoard$Watchdog", "count", "I", "FlashBoard"), ("FlashBoard$Core", 290, "FlashBoard$Watchdog", "count", "I", "FlashBoard"), ("FlashBoard", 180, "FlashBoard$Causes", "window", "I", "FlashBoard"), ("FlashBoard", 69, "FlashBoard$Flash", "words", "[C", "FlashBoard"), ("FlashBoard", 172, "FlashBoard$Flash", "window", "I", "FlashBoard"), ("FlashBoard", 136, "FlashBoard$Flash", "busy", "I", "FlashBoard"), ("FlashBoard", 105, "FlashBoard$Flash", "locks", "I", "FlashBoard"), ("FlashBoard$Core", 86, "FlashBoard$Flash", "fuse", "I", "FlashBoard"), ("FlashBoard", 108, "FlashBoard$Flash", "fuse", "I", "FlashBoard"), ("FlashBoard$Causes", 13, "FlashBoard$Core", "data", "[I", "FlashBoard"), ("FlashBoard$Timer", 13, "FlashBoard$Core", "data", "[I", "FlashBoard"), ("FlashBoard$Watchdog", 13, "FlashBoard$Core", "data", "[I", "FlashBoard"), ("FlashBoard$Unit", 13, "FlashBoard$Core", "data", "[I", "FlashBoard"), ("FlashBoard$Port", 13, "FlashBoard$Core", "data", "[I", "FlashBoard"), ("FlashBoard$Eeprom", 17, "FlashBoard$Core", "data", "[I", "FlashBoard"), ("FlashBoard$Flash", 144, "FlashBoard$Core", "data", "[I", "FlashBoard"), ("FlashBoard$Line", 49, "FlashBoard$Core", "data", "[I", "FlashBoard"), ("FlashBoard", 84, "FlashBoard$Core", "data", "[I", "FlashBoard"), ("FlashBoard", 96, "FlashBoard$Core", "port", "LFlashBoard$Port;", "FlashBoard"), ("FlashBoard", 151, "FlashBoard$Core", "timer", "LFlashBoard$Timer;", "FlashBoard"), ("FlashBoard", 35, "FlashBoard$Core", "line", "LFlashBoard$Line;", "FlashBoard"), ("FlashBoard", 87, "FlashBoard$Core", "eeprom", "LFlashBoard$Eeprom;", "FlashBoard"), ("FlashBoard", 142, "FlashBoard$Core", "watchdog", "LFlashBoard$Watchdog;", "FlashBoard"), ("FlashBoard", 176, "FlashBoard$Core", "causes", "LFlashBoard$Causes;", "FlashBoard"), ("FlashBoard", 65, "FlashBoard$Core", "flash", "LFlashBoard$Flash;", "FlashBoard"), ("FlashBoard", 111, "FlashBoard$Core", "pc", "I", "FlashBoard"), ("FlashBoard$Eeprom", 29, "FlashBoard$Core", "more", "I", "FlashBoard"), ("FlashBoard$Flash", 166, "FlashBoard$Core", "more", "I", "FlashBoard"), ("FlashBoard", 124, "FlashBoard$Core", "cycles", "I", "FlashBoard"), ("FlashBoard", 127, "FlashBoard$Core", "steps", "I", "FlashBoard"), ("FlashBoard", 130, "FlashBoard$Core", "entries", "I", "FlashBoard"), ("FlashBoard", 133, "FlashBoard$Core", "resets", "I", "FlashBoard"), ("FlashBoard", 114, "FlashBoard$Core", "sleeps", "Z", "FlashBoard"), ("FlashBoard$Watchdog", 32, "FlashBoard$Core", "isReset", "Z", "FlashBoard"), ("FlashBoard", 30, "FlashBoard$Core", "hasPower", "Z", "FlashBoard")]
/-- the words of nest mates and their kin, that ride in no list -/
def Nst (U : State) : Prop := (∀ q ∈ nfl, va_Nw (.fieldLinkNest q.1 q.2.1 q.2.2.1 q.2.2.2.1 q.2.2.2.2.1 q.2.2.2.2.2) U) ∧ va_Nw (.methodLinkNest "FlashBoard" 121 ⟨"FlashBoard$Core", "stack", "()I"⟩ "FlashBoard") U ∧ va_Nw (.declares ⟨"FlashBoard$Unit", "clear", "()V"⟩) U ∧ va_AO "FlashBoard$Unit" U
theorem Nst.warm {s U : State} (hW : s.WarmedH U.vm) (h : Nst s) : Nst U := ⟨fun q hq => va_Nw.warmF hW (h.1 q hq), va_Nw.warmM hW h.2.1, va_Nw.warmD hW h.2.2.1, va_AO.moved hW.alike h.2.2.2⟩
theorem va_Nw.calling {w : Cond} (hw : w.onTables = true) {U : State} {g : JFrame} {mk : MethodId} {a : Array Value} (h : va_Nw w U) : va_Nw w (U.calling g mk a) := va_Nw.same hw (u := U) (U := U.calling g mk a) rfl h
theorem Nst.calling {U : State} {g : JFrame} {mk : MethodId} {a : Array Value} (h : Nst U) : Nst (U.calling g mk a) := ⟨fun q hq => va_Nw.calling rfl (h.1 q hq), va_Nw.calling rfl h.2.1, va_Nw.calling rfl h.2.2.1, va_AO.moved (u := U) (U := U.calling g mk a) (Vm.Alike.refl U.vm) h.2.2.2⟩
def rmN (n : Nat) : Room := { frames := n, cells := 0, slots := 0, locals := 40 * n }
abbrev JS : Type := Program × Launch × Env × Room × State × MethodId × Array Value × List Frame × Method × Code
abbrev JK (β : Type) : Type := JS × (va_G × (Nat → ClassId) × (Nat → Prop)) × (β → State → Prop) × Nat
def Ju {β : Type} : JK β → Nat × Nat → va_W → List (Nat × Value) → Nat → List Value → β → Prop
  | ((p, l, e, R, s, m, args, below, meth, c), (D, _, A), Qf, nL), cs, ws, L, pc, st, r =>
    ∀ (H : Heap) (locs : List Loc) (ls : Array Slot), va_P D vwCl ws H → va_D A ws → va_S A s.heap H locs → lv_has ls nL L → W p l e R s m args below meth c H locs cs.1 cs.2 (Qf r) (F0 m pc ls st)
/-- a method's end: the answer, the cells -/
def Qo (D : va_G) (A : Nat → Prop) (o : Option Value × va_W) : Array Value → State → Outcome → State → Prop := fun _ st oc t => (oc = .returned o.1 ∧ va_P D vwCl o.2 t.heap ∧ va_D A o.2) ∧ va_F A st t
/-- what holds of a configuration's fixed part -/
def JX {β : Type} : JK β → String → ByteArray → Nat → Option FieldType → Room → Launch → va_G → (Nat → ClassId) → Prop
  | ((p, l, e, R, s, m, args, below, meth, c), (D, d, A), Qf, nL), own, cc, nL', ret, rm, l', D', d' =>
    p.tables.exec = Jvm.exec ∧ c.code = cc ∧ meth.sig.returnType = ret ∧ c.maxLocals = nL ∧ s.vm.findClass own = some m.cls ∧ (∀ w ∈ lw_all, w.before args s = true) ∧ va_K D vwCl (tysOf d) s ∧ Nst s ∧ meth.locks = false ∧ (∀ q : Nat, s.heap.size ≤ q → A q) ∧ R = rm ∧ l = l' ∧ D = D' ∧ d = d' ∧ nL = nL'
/-- what its end asks -/
def JQ {β : Type} : JK β → (β → Option Value × va_W) → Nat → Nat → Prop
  | ((p, l, e, R, s, m, args, below, meth, c), (D, d, A), Qf, nL), ρ, mc, ms => ∀ r, Qf r = MQ below (Qo D A (ρ r)) args s mc ms A
section JRows
variable {β : Type} {K : JK β} {own : String} {cc : ByteArray} {nL : Nat} {ret : Option FieldType} {rm : Room} {l : Launch} {D : va_G} {d : Nat → ClassId} {cs : Nat × Nat} {ws : va_W} {L L' : List (Nat × Value)} {pc : Nat} {st : List Value} {r : β}
theorem j_iconst (X : JX K own cc nL ret rm l D d) {n : Int} {v : Int32} (dd : decode cc pc = .ok (.iconst n, 1)) (hv : Int32.ofInt n = v) (k : Ju K cs ws L (pc + 1) (.int v :: st) r) : Ju K cs ws L pc st r := by
  obtain ⟨⟨p, l1, e, R, s, m, args, below, meth, c⟩, ⟨D1, d1, A⟩, Qf, nL1⟩ := K
  obtain ⟨hx, hb, hr, hml, hown, hts, hK, hN, hlk, hA, rfl, rfl, rfl, rfl, rfl⟩ := X
  intro H locs ls hP hD hS hl
  exact lv_iconst hx hb dd hv (k H locs ls hP hD hS hl)
theorem j_bipush (X : JX K own cc nL ret rm l D d) {n : Int} {v : Int32} (dd : decode cc pc = .ok (.bipush n, 2)) (hv : (Int8.ofInt n).toInt32 = v) (k : Ju K cs ws L (pc + 2) (.int v :: st) r) : Ju K cs ws L pc st r := by
  obtain ⟨⟨p, l1, e, R, s, m, args, below, meth, c⟩, ⟨D1, d1, A⟩, Qf, nL1⟩ := K
  obtain ⟨hx, hb, hr, hml, hown, hts, hK, hN, hlk, hA, rfl, rfl, rfl, rfl, rfl⟩ := X
  intro H locs ls hP hD hS hl
  exact lv_bipush hx hb dd hv (k H locs ls hP hD hS hl)
theorem j_sipush (X : JX K own cc nL ret rm l D d) {n : Int} {v : Int32} (dd : decode cc pc = .ok (.sipush n, 3)) (hv : (Int16.ofInt n).toInt32 = v) (k : Ju K cs ws L (pc + 3) (.int v :: st) r) : Ju K cs ws L pc st r := by
  obtain ⟨⟨p, l1, e, R, s, m, args, below, meth, c⟩, ⟨D1, d1, A⟩, Qf, nL1⟩ := K
  obtain ⟨hx, hb, hr, hml, hown, hts, hK, hN, hlk, hA, rfl, rfl, rfl, rfl, rfl⟩ := X
  intro H locs ls hP hD hS hl
  exact lv_sipush hx hb dd hv (k H locs ls hP hD hS hl)
theorem j_ldc (X : JX K own cc nL ret rm l D d) {index : Nat} {v : Int32} (hq : Jvm.Cond.constant own index v ∈ lw_all) (dd : decode cc pc = .ok (.ldc index, 2)) (k : Ju K cs ws L (pc + 2) (.int v :: st) r) : Ju K cs ws L pc st r := by
  obtain ⟨⟨p, l1, e, R, s, m, args, below, meth, c⟩, ⟨D1, d1, A⟩, Qf, nL1⟩ := K
  obtain ⟨hx, hb, hr, hml, hown, hts, hK, hN, hlk, hA, rfl, rfl, rfl, rfl, rfl⟩ := X
  intro H locs ls hP hD hS hl
  exact lv_ldc hx hb hown (hts _ hq) dd (k H locs ls hP hD hS hl)
theorem j_ldcw (X : JX K own cc nL ret rm l D d) {index : Nat} {v : Int32} (hq : Jvm.Cond.constant own index v ∈ lw_all) (dd : decode cc pc = .ok (.ldc_w index, 3)) (k : Ju K cs ws L (pc + 3) (.int v :: st) r) : Ju K cs ws L pc st r := by
  obtain ⟨⟨p, l1, e, R, s, m, args, below, meth, c⟩, ⟨D1, d1, A⟩, Qf, nL1⟩ := K
  obtain ⟨hx, hb, hr, hml, hown, hts, hK, hN, hlk, hA, rfl, rfl, rfl, rfl, rfl⟩ := X
  intro H locs ls hP hD hS hl
  exact lv_ldcw hx hb hown (hts _ hq) dd (k H locs ls hP hD hS hl)
theorem j_iload_n (X : JX K own cc nL ret rm l D d) {kk : Fin 4} {i : Nat} {x : Int32} (dd : decode cc pc = .ok (.iload_n kk, 1)) (q : Nat) (hi : (kk : Nat) = i) (hq : L[q]? = some (i, .int x)) (k : Ju K cs ws L (pc + 1) (.int x :: st) r) : Ju K cs ws L pc st r := by
  obtain ⟨⟨p, l1, e, R, s, m, args, below, meth, c⟩, ⟨D1, d1, A⟩, Qf, nL1⟩ := K
  obtain ⟨hx, hb, hr, hml, hown, hts, hK, hN, hlk, hA, rfl, rfl, rfl, rfl, rfl⟩ := X
  intro H locs ls hP hD hS hl
  exact lv_iload_n hx hb dd hi (lv_at hl q hq) (k H locs ls hP hD hS hl)
theorem j_iload (X : JX K own cc nL ret rm l D d) {i : Nat} {x : Int32} (dd : decode cc pc = .ok (.iload i, 2)) (q : Nat) (hq : L[q]? = some (i, .int x)) (k : Ju K cs ws L (pc + 2) (.int x :: st) r) : Ju K cs ws L pc st r := by
  obtain ⟨⟨p, l1, e, R, s, m, args, below, meth, c⟩, ⟨D1, d1, A⟩, Qf, nL1⟩ := K
  obtain ⟨hx, hb, hr, hml, hown, hts, hK, hN, hlk, hA, rfl, rfl, rfl, rfl, rfl⟩ := X
  intro H locs ls hP hD hS hl
  exact lv_iload hx hb dd (lv_at hl q hq) (k H locs ls hP hD hS hl)
theorem j_aload_n (X : JX K own cc nL ret rm l D d) {kk : Fin 4} {i : Nat} {x : Nat} (dd : decode cc pc = .ok (.aload_n kk, 1)) (q : Nat) (hi : (kk : Nat) = i) (hq : L[q]? = some (i, .ref x)) (k : Ju K cs ws L (pc + 1) (.ref x :: st) r) : Ju K cs ws L pc st r := by
  obtain ⟨⟨p, l1, e, R, s, m, args, below, meth, c⟩, ⟨D1, d1, A⟩, Qf, nL1⟩ := K
  obtain ⟨hx, hb, hr, hml, hown, hts, hK, hN, hlk, hA, rfl, rfl, rfl, rfl, rfl⟩ := X
  intro H locs ls hP hD hS hl
  exact lv_aload_n hx hb dd hi (lv_at hl q hq) (k H locs ls hP hD hS hl)
theorem j_aload (X : JX K own cc nL ret rm l D d) {i : Nat} {x : Nat} (dd : decode cc pc = .ok (.aload i, 2)) (q : Nat) (hq : L[q]? = some (i, .ref x)) (k : Ju K cs ws L (pc + 2) (.ref x :: st) r) : Ju K cs ws L pc st r := by
  obtain ⟨⟨p, l1, e, R, s, m, args, below, meth, c⟩, ⟨D1, d1, A⟩, Qf, nL1⟩ := K
  obtain ⟨hx, hb, hr, hml, hown, hts, hK, hN, hlk, hA, rfl, rfl, rfl, rfl, rfl⟩ := X
  intro H locs ls hP hD hS hl
  exact lv_aload hx hb dd (lv_at hl q hq) (k H locs ls hP hD hS hl)
theorem j_lload_n (X : JX K own cc nL ret rm l D d) {kk : Fin 4} {i : Nat} {x : Int64} (dd : decode cc pc = .ok (.lload_n kk, 1)) (q : Nat) (hi : (kk : Nat) = i) (hq : L[q]? = some (i, .long x)) (k : Ju K cs ws L (pc + 1) (.long x :: st) r) : Ju K cs ws L pc st r := by
  obtain ⟨⟨p, l1, e, R, s, m, args, below, meth, c⟩, ⟨D1, d1, A⟩, Qf, nL1⟩ := K
  obtain ⟨hx, hb, hr, hml, hown, hts, hK, hN, hlk, hA, rfl, rfl, rfl, rfl, rfl⟩ := X
  intro H locs ls hP hD hS hl
  exact lv_lload_n hx hb dd hi (lv_at hl q hq) (k H locs ls hP hD hS hl)
theorem j_lload (X : JX K own cc nL ret rm l D d) {i : Nat} {x : Int64} (dd : decode cc pc = .ok (.lload i, 2)) (q : Nat) (hq : L[q]? = some (i, .long x)) (k : Ju K cs ws L (pc + 2) (.long x :: st) r) : Ju K cs ws L pc st r := by
  obtain ⟨⟨p, l1, e, R, s, m, args, below, meth, c⟩, ⟨D1, d1, A⟩, Qf, nL1⟩ := K
  obtain ⟨hx, hb, hr, hml, hown, hts, hK, hN, hlk, hA, rfl, rfl, rfl, rfl, rfl⟩ := X
  intro H locs ls hP hD hS hl
  exact lv_lload hx hb dd (lv_at hl q hq) (k H locs ls hP hD hS hl)
theorem j_aload_nN (X : JX K own cc nL ret rm l D d) {kk : Fin 4} {i : Nat} (dd : decode cc pc = .ok (.aload_n kk, 1)) (q : Nat) (hi : (kk : Nat) = i) (hq : L[q]? = some (i, .null)) (k : Ju K cs ws L (pc + 1) (.null :: st) r) : Ju K cs ws L pc st r := by
  obtain ⟨⟨p, l1, e, R, s, m, args, below, meth, c⟩, ⟨D1, d1, A⟩, Qf, nL1⟩ := K
  obtain ⟨hx, hb, hr, hml, hown, hts, hK, hN, hlk, hA, rfl, rfl, rfl, rfl, rfl⟩ := X
  intro H locs ls hP hD hS hl
  exact lv_aload_nN hx hb dd hi (lv_at hl q hq) (k H locs ls hP hD hS hl)
theorem j_aloadN (X : JX K own cc nL ret rm l D d) {i : Nat} (dd : decode cc pc = .ok (.aload i, 2)) (q : Nat) (hq : L[q]? = some (i, .null)) (k : Ju K cs ws L (pc + 2) (.null :: st) r) : Ju K cs ws L pc st r := by
  obtain ⟨⟨p, l1, e, R, s, m, args, below, meth, c⟩, ⟨D1, d1, A⟩, Qf, nL1⟩ := K
  obtain ⟨hx, hb, hr, hml, hown, hts, hK, hN, hlk, hA, rfl, rfl, rfl, rfl, rfl⟩ := X
  intro H locs ls hP hD hS hl
  exact lv_aloadN hx hb dd (lv_at hl q hq) (k H locs ls hP hD hS hl)
theorem j_istore_n (X : JX K own cc nL ret rm l D d) {kk : Fin 4} {i : Nat} {x : Int32} {L0 : List (Nat × Value)} (dd : decode cc pc = .ok (.istore_n kk, 1)) (hi : (kk : Nat) = i) (hn : i < nL) (hf : (i, Value.int x) :: L.filter (fun q => !(q.1 == i) && !(q.1 + 1 == i && q.2.category == 2)) = L0) (is : List Nat) (hp : lv_pick L0 is = L') (k : Ju K cs ws L' (pc + 1) st r) : Ju K cs ws L pc (.int x :: st) r := by
  obtain ⟨⟨p, l1, e, R, s, m, args, below, meth, c⟩, ⟨D1, d1, A⟩, Qf, nL1⟩ := K
  obtain ⟨hx, hb, hr, hml, hown, hts, hK, hN, hlk, hA, rfl, rfl, rfl, rfl, rfl⟩ := X
  intro H locs ls hP hD hS hl
  exact lv_istore_n hx hb dd hi hl hn hf (fun ls hl => k H locs ls hP hD hS (lv_sub hl is hp))
theorem j_istore (X : JX K own cc nL ret rm l D d) {i : Nat} {x : Int32} {L0 : List (Nat × Value)} (dd : decode cc pc = .ok (.istore i, 2)) (hn : i < nL) (hf : (i, Value.int x) :: L.filter (fun q => !(q.1 == i) && !(q.1 + 1 == i && q.2.category == 2)) = L0) (is : List Nat) (hp : lv_pick L0 is = L') (k : Ju K cs ws L' (pc + 2) st r) : Ju K cs ws L pc (.int x :: st) r := by
  obtain ⟨⟨p, l1, e, R, s, m, args, below, meth, c⟩, ⟨D1, d1, A⟩, Qf, nL1⟩ := K
  obtain ⟨hx, hb, hr, hml, hown, hts, hK, hN, hlk, hA, rfl, rfl, rfl, rfl, rfl⟩ := X
  intro H locs ls hP hD hS hl
  exact lv_istore hx hb dd hl hn hf (fun ls hl => k H locs ls hP hD hS (lv_sub hl is hp))
theorem j_astore_n (X : JX K own cc nL ret rm l D d) {kk : Fin 4} {i : Nat} {x : Nat} {L0 : List (Nat × Value)} (dd : decode cc pc = .ok (.astore_n kk, 1)) (hi : (kk : Nat) = i) (hn : i < nL) (hf : (i, Value.ref x) :: L.filter (fun q => !(q.1 == i) && !(q.1 + 1 == i && q.2.category == 2)) = L0) (is : List Nat) (hp : lv_pick L0 is = L') (k : Ju K cs ws L' (pc + 1) st r) : Ju K cs ws L pc (.ref x :: st) r := by
  obtain ⟨⟨p, l1, e, R, s, m, args, below, meth, c⟩, ⟨D1, d1, A⟩, Qf, nL1⟩ := K
  obtain ⟨hx, hb, hr, hml, hown, hts, hK, hN, hlk, hA, rfl, rfl, rfl, rfl, rfl⟩ := X
  intro H locs ls hP hD hS hl
  exact lv_astore_n hx hb dd hi hl hn hf (fun ls hl => k H locs ls hP hD hS (lv_sub hl is hp))
theorem j_astore (X : JX K own cc nL ret rm l D d) {i : Nat} {x : Nat} {L0 : List (Nat × Value)} (dd : decode cc pc = .ok (.astore i, 2)) (hn : i < nL) (hf : (i, Value.ref x) :: L.filter (fun q => !(q.1 == i) && !(q.1 + 1 == i && q.2.category == 2)) = L0) (is : List Nat) (hp : lv_pick L0 is = L') (k : Ju K cs ws L' (pc + 2) st r) : Ju K cs ws L pc (.ref x :: st) r := by
  obtain ⟨⟨p, l1, e, R, s, m, args, below, meth, c⟩, ⟨D1, d1, A⟩, Qf, nL1⟩ := K
  obtain ⟨hx, hb, hr, hml, hown, hts, hK, hN, hlk, hA, rfl, rfl, rfl, rfl, rfl⟩ := X
  intro H locs ls hP hD hS hl
  exact lv_astore hx hb dd hl hn hf (fun ls hl => k H locs ls hP hD hS (lv_sub hl is hp))
theorem j_astore_nN (X : JX K own cc nL ret rm l D d) {kk : Fin 4} {i : Nat} {L0 : List (Nat × Value)} (dd : decode cc pc = .ok (.astore_n kk, 1)) (hi : (kk : Nat) = i) (hn : i < nL) (hf : (i, Value.null) :: L.filter (fun q => !(q.1 == i) && !(q.1 + 1 == i && q.2.category == 2)) = L0) (is : List Nat) (hp : lv_pick L0 is = L') (k : Ju K cs ws L' (pc + 1) st r) : Ju K cs ws L pc (.null :: st) r := by
  obtain ⟨⟨p, l1, e, R, s, m, args, below, meth, c⟩, ⟨D1, d1, A⟩, Qf, nL1⟩ := K
  obtain ⟨hx, hb, hr, hml, hown, hts, hK, hN, hlk, hA, rfl, rfl, rfl, rfl, rfl⟩ := X
  intro H locs ls hP hD hS hl
  exact lv_astore_nN hx hb dd hi hl hn hf (fun ls hl => k H locs ls hP hD hS (lv_sub hl is hp))
theorem j_astoreN (X : JX K own cc nL ret rm l D d) {i : Nat} {L0 : List (Nat × Value)} (dd : decode cc pc = .ok (.astore i, 2)) (hn : i < nL) (hf : (i, Value.null) :: L.filter (fun q => !(q.1 == i) && !(q.1 + 1 == i && q.2.category == 2)) = L0) (is : List Nat) (hp : lv_pick L0 is = L') (k : Ju K cs ws L' (pc + 2) st r) : Ju K cs ws L pc (.null :: st) r := by
  obtain ⟨⟨p, l1, e, R, s, m, args, below, meth, c⟩, ⟨D1, d1, A⟩, Qf, nL1⟩ := K
  obtain ⟨hx, hb, hr, hml, hown, hts, hK, hN, hlk, hA, rfl, rfl, rfl, rfl, rfl⟩ := X
  intro H locs ls hP hD hS hl
  exact lv_astoreN hx hb dd hl hn hf (fun ls hl => k H locs ls hP hD hS (lv_sub hl is hp))
theorem j_iinc (X : JX K own cc nL ret rm l D d) {i : Nat} {n : Int} {x v : Int32} {L0 : List (Nat × Value)} (dd : decode cc pc = .ok (.iinc i n, 3)) (q : Nat) (hq : L[q]? = some (i, .int x)) (hv : x + Int32.ofInt n = v) (hn : i < nL) (hf : (i, Value.int v) :: L.filter (fun q => !(q.1 == i) && !(q.1 + 1 == i && q.2.category == 2)) = L0) (is : List Nat) (hp : lv_pick L0 is = L') (k : Ju K cs ws L' (pc + 3) st r) : Ju K cs ws L pc st r := by
  obtain ⟨⟨p, l1, e, R, s, m, args, below, meth, c⟩, ⟨D1, d1, A⟩, Qf, nL1⟩ := K
  obtain ⟨hx, hb, hr, hml, hown, hts, hK, hN, hlk, hA, rfl, rfl, rfl, rfl, rfl⟩ := X
  intro H locs ls hP hD hS hl
  exact lv_iinc hx hb dd hl hq hv hn hf (fun ls hl => k H locs ls hP hD hS (lv_sub hl is hp))
theorem j_sub (X : JX K own cc nL ret rm l D d) (is : List Nat) (hp : lv_pick L is = L') (k : Ju K cs ws L' pc st r) : Ju K cs ws L pc st r := by
  obtain ⟨⟨p, l1, e, R, s, m, args, below, meth, c⟩, ⟨D1, d1, A⟩, Qf, nL1⟩ := K
  obtain ⟨hx, hb, hr, hml, hown, hts, hK, hN, hlk, hA, rfl, rfl, rfl, rfl, rfl⟩ := X
  intro H locs ls hP hD hS hl
  exact k H locs ls hP hD hS (lv_sub hl is hp)
theorem j_iadd (X : JX K own cc nL ret rm l D d) {x y : Int32} (dd : decode cc pc = .ok (.iadd, 1)) (k : Ju K cs ws L (pc + 1) (.int (x + y) :: st) r) : Ju K cs ws L pc (.int y :: .int x :: st) r := by
  obtain ⟨⟨p, l1, e, R, s, m, args, below, meth, c⟩, ⟨D1, d1, A⟩, Qf, nL1⟩ := K
  obtain ⟨hx, hb, hr, hml, hown, hts, hK, hN, hlk, hA, rfl, rfl, rfl, rfl, rfl⟩ := X
  intro H locs ls hP hD hS hl
  exact lv_iadd hx hb dd (k H locs ls hP hD hS hl)
theorem j_isub (X : JX K own cc nL ret rm l D d) {x y : Int32} (dd : decode cc pc = .ok (.isub, 1)) (k : Ju K cs ws L (pc + 1) (.int (x - y) :: st) r) : Ju K cs ws L pc (.int y :: .int x :: st) r := by
  obtain ⟨⟨p, l1, e, R, s, m, args, below, meth, c⟩, ⟨D1, d1, A⟩, Qf, nL1⟩ := K
  obtain ⟨hx, hb, hr, hml, hown, hts, hK, hN, hlk, hA, rfl, rfl, rfl, rfl, rfl⟩ := X
  intro H locs ls hP hD hS hl
  exact lv_isub hx hb dd (k H locs ls hP hD hS hl)
theorem j_imul (X : JX K own cc nL ret rm l D d) {x y : Int32} (dd : decode cc pc = .ok (.imul, 1)) (k : Ju K cs ws L (pc + 1) (.int (x * y) :: st) r) : Ju K cs ws L pc (.int y :: .int x :: st) r := by
  obtain ⟨⟨p, l1, e, R, s, m, args, below, meth, c⟩, ⟨D1, d1, A⟩, Qf, nL1⟩ := K
  obtain ⟨hx, hb, hr, hml, hown, hts, hK, hN, hlk, hA, rfl, rfl, rfl, rfl, rfl⟩ := X
  intro H locs ls hP hD hS hl
  exact lv_imul hx hb dd (k H locs ls hP hD hS hl)
theorem j_iand (X : JX K own cc nL ret rm l D d) {x y : Int32} (dd : decode cc pc = .ok (.iand, 1)) (k : Ju K cs ws L (pc + 1) (.int (x &&& y) :: st) r) : Ju K cs ws L pc (.int y :: .int x :: st) r := by
  obtain ⟨⟨p, l1, e, R, s, m, args, below, meth, c⟩, ⟨D1, d1, A⟩, Qf, nL1⟩ := K
  obtain ⟨hx, hb, hr, hml, hown, hts, hK, hN, hlk, hA, rfl, rfl, rfl, rfl, rfl⟩ := X
  intro H locs ls hP hD hS hl
  exact lv_iand hx hb dd (k H locs ls hP hD hS hl)
theorem j_ior (X : JX K own cc nL ret rm l D d) {x y : Int32} (dd : decode cc pc = .ok (.ior, 1)) (k : Ju K cs ws L (pc + 1) (.int (x ||| y) :: st) r) : Ju K cs ws L pc (.int y :: .int x :: st) r := by
  obtain ⟨⟨p, l1, e, R, s, m, args, below, meth, c⟩, ⟨D1, d1, A⟩, Qf, nL1⟩ := K
  obtain ⟨hx, hb, hr, hml, hown, hts, hK, hN, hlk, hA, rfl, rfl, rfl, rfl, rfl⟩ := X
  intro H locs ls hP hD hS hl
  exact lv_ior hx hb dd (k H locs ls hP hD hS hl)
theorem j_ixor (X : JX K own cc nL ret rm l D d) {x y : Int32} (dd : decode cc pc = .ok (.ixor, 1)) (k : Ju K cs ws L (pc + 1) (.int (x ^^^ y) :: st) r) : Ju K cs ws L pc (.int y :: .int x :: st) r := by
  obtain ⟨⟨p, l1, e, R, s, m, args, below, meth, c⟩, ⟨D1, d1, A⟩, Qf, nL1⟩ := K
  obtain ⟨hx, hb, hr, hml, hown, hts, hK, hN, hlk, hA, rfl, rfl, rfl, rfl, rfl⟩ := X
  intro H locs ls hP hD hS hl
  exact lv_ixor hx hb dd (k H locs ls hP hD hS hl)
theorem j_irem (X : JX K own cc nL ret rm l D d) {x y v : Int32} (dd : decode cc pc = .ok (.irem, 1)) (hne : ¬ y = 0) (hv : x - x / y * y = v) (k : Ju K cs ws L (pc + 1) (.int v :: st) r) : Ju K cs ws L pc (.int y :: .int x :: st) r := by
  obtain ⟨⟨p, l1, e, R, s, m, args, below, meth, c⟩, ⟨D1, d1, A⟩, Qf, nL1⟩ := K
  obtain ⟨hx, hb, hr, hml, hown, hts, hK, hN, hlk, hA, rfl, rfl, rfl, rfl, rfl⟩ := X
  intro H locs ls hP hD hS hl
  subst hv; exact lv_irem hx hb dd hne (k H locs ls hP hD hS hl)
theorem j_ishl (X : JX K own cc nL ret rm l D d) {x y z : Int32} (dd : decode cc pc = .ok (.ishl, 1)) (hz : y &&& 31 = z) (k : Ju K cs ws L (pc + 1) (.int (x <<< z) :: st) r) : Ju K cs ws L pc (.int y :: .int x :: st) r := by
  obtain ⟨⟨p, l1, e, R, s, m, args, below, meth, c⟩, ⟨D1, d1, A⟩, Qf, nL1⟩ := K
  obtain ⟨hx, hb, hr, hml, hown, hts, hK, hN, hlk, hA, rfl, rfl, rfl, rfl, rfl⟩ := X
  intro H locs ls hP hD hS hl
  subst hz; exact lv_ishl hx hb dd (k H locs ls hP hD hS hl)
theorem j_ishr (X : JX K own cc nL ret rm l D d) {x y z : Int32} (dd : decode cc pc = .ok (.ishr, 1)) (hz : y &&& 31 = z) (k : Ju K cs ws L (pc + 1) (.int (x >>> z) :: st) r) : Ju K cs ws L pc (.int y :: .int x :: st) r := by
  obtain ⟨⟨p, l1, e, R, s, m, args, below, meth, c⟩, ⟨D1, d1, A⟩, Qf, nL1⟩ := K
  obtain ⟨hx, hb, hr, hml, hown, hts, hK, hN, hlk, hA, rfl, rfl, rfl, rfl, rfl⟩ := X
  intro H locs ls hP hD hS hl
  subst hz; exact lv_ishr hx hb dd (k H locs ls hP hD hS hl)
theorem j_iushr (X : JX K own cc nL ret rm l D d) {x y v : Int32} (dd : decode cc pc = .ok (.iushr, 1)) (hv : (x.toUInt32 >>> (y.toUInt32 &&& Int32.toUInt32 31)).toInt32 = v) (k : Ju K cs ws L (pc + 1) (.int v :: st) r) : Ju K cs ws L pc (.int y :: .int x :: st) r := by
  obtain ⟨⟨p, l1, e, R, s, m, args, below, meth, c⟩, ⟨D1, d1, A⟩, Qf, nL1⟩ := K
  obtain ⟨hx, hb, hr, hml, hown, hts, hK, hN, hlk, hA, rfl, rfl, rfl, rfl, rfl⟩ := X
  intro H locs ls hP hD hS hl
  exact lv_iushr hx hb dd hv (k H locs ls hP hD hS hl)
theorem j_i2b (X : JX K own cc nL ret rm l D d) {x : Int32} (dd : decode cc pc = .ok (.i2b, 1)) (k : Ju K cs ws L (pc + 1) (.int (x.toInt8.toInt32) :: st) r) : Ju K cs ws L pc (.int x :: st) r := by
  obtain ⟨⟨p, l1, e, R, s, m, args, below, meth, c⟩, ⟨D1, d1, A⟩, Qf, nL1⟩ := K
  obtain ⟨hx, hb, hr, hml, hown, hts, hK, hN, hlk, hA, rfl, rfl, rfl, rfl, rfl⟩ := X
  intro H locs ls hP hD hS hl
  exact lv_i2b hx hb dd rfl (k H locs ls hP hD hS hl)
theorem j_i2c (X : JX K own cc nL ret rm l D d) {x : Int32} (dd : decode cc pc = .ok (.i2c, 1)) (k : Ju K cs ws L (pc + 1) (.int ((x.toUInt32 % 65536).toInt32) :: st) r) : Ju K cs ws L pc (.int x :: st) r := by
  obtain ⟨⟨p, l1, e, R, s, m, args, below, meth, c⟩, ⟨D1, d1, A⟩, Qf, nL1⟩ := K
  obtain ⟨hx, hb, hr, hml, hown, hts, hK, hN, hlk, hA, rfl, rfl, rfl, rfl, rfl⟩ := X
  intro H locs ls hP hD hS hl
  exact lv_i2c hx hb dd rfl (k H locs ls hP hD hS hl)
theorem j_dup (X : JX K own cc nL ret rm l D d) {va : Value} (dd : decode cc pc = .ok (.dup, 1)) (hva : va.category = 1) (k : Ju K cs ws L (pc + 1) (va :: va :: st) r) : Ju K cs ws L pc (va :: st) r := by
  obtain ⟨⟨p, l1, e, R, s, m, args, below, meth, c⟩, ⟨D1, d1, A⟩, Qf, nL1⟩ := K
  obtain ⟨hx, hb, hr, hml, hown, hts, hK, hN, hlk, hA, rfl, rfl, rfl, rfl, rfl⟩ := X
  intro H locs ls hP hD hS hl
  exact lv_dup hx hb dd hva (k H locs ls hP hD hS hl)
theorem j_dup_x1 (X : JX K own cc nL ret rm l D d) {va vb : Value} (dd : decode cc pc = .ok (.dup_x1, 1)) (hva : va.category = 1) (hvb : vb.category = 1) (k : Ju K cs ws L (pc + 1) (va :: vb :: va :: st) r) : Ju K cs ws L pc (va :: vb :: st) r := by
  obtain ⟨⟨p, l1, e, R, s, m, args, below, meth, c⟩, ⟨D1, d1, A⟩, Qf, nL1⟩ := K
  obtain ⟨hx, hb, hr, hml, hown, hts, hK, hN, hlk, hA, rfl, rfl, rfl, rfl, rfl⟩ := X
  intro H locs ls hP hD hS hl
  exact lv_dup_x1 hx hb dd hva hvb (k H locs ls hP hD hS hl)
theorem j_dup2 (X : JX K own cc nL ret rm l D d) {va vb : Value} (dd : decode cc pc = .ok (.dup2, 1)) (hva : va.category = 1) (hvb : vb.category = 1) (k : Ju K cs ws L (pc + 1) (va :: vb :: va :: vb :: st) r) : Ju K cs ws L pc (va :: vb :: st) r := by
  obtain ⟨⟨p, l1, e, R, s, m, args, below, meth, c⟩, ⟨D1, d1, A⟩, Qf, nL1⟩ := K
  obtain ⟨hx, hb, hr, hml, hown, hts, hK, hN, hlk, hA, rfl, rfl, rfl, rfl, rfl⟩ := X
  intro H locs ls hP hD hS hl
  exact lv_dup2_11 hx hb dd hva hvb (k H locs ls hP hD hS hl)
theorem j_pop (X : JX K own cc nL ret rm l D d) {va : Value} (dd : decode cc pc = .ok (.pop, 1)) (hva : va.category = 1) (k : Ju K cs ws L (pc + 1) st r) : Ju K cs ws L pc (va :: st) r := by
  obtain ⟨⟨p, l1, e, R, s, m, args, below, meth, c⟩, ⟨D1, d1, A⟩, Qf, nL1⟩ := K
  obtain ⟨hx, hb, hr, hml, hown, hts, hK, hN, hlk, hA, rfl, rfl, rfl, rfl, rfl⟩ := X
  intro H locs ls hP hD hS hl
  exact lv_pop hx hb dd hva (k H locs ls hP hD hS hl)
theorem p_if_eq (X : JX K own cc nL ret rm l D d) {x : Int32} {off : Int} {tgt : Nat} (dd : decode cc pc = .ok (.ifCond .eq off, 3)) (ht : (pc : Int) + off = (tgt : Int)) (kA : x = 0 → Ju K cs ws L tgt st r) (kB : ¬ x = 0 → Ju K cs ws L (pc + 3) st r) : Ju K cs ws L pc (.int x :: st) r := by
  obtain ⟨⟨p, l1, e, R, s, m, args, below, meth, c⟩, ⟨D1, d1, A⟩, Qf, nL1⟩ := K
  obtain ⟨hx, hb, hr, hml, hown, hts, hK, hN, hlk, hA, rfl, rfl, rfl, rfl, rfl⟩ := X
  intro H locs ls hP hD hS hl
  exact lv_if_eq hx hb dd ht (fun h => kA h H locs ls hP hD hS hl) (fun h => kB h H locs ls hP hD hS hl)
theorem j_if_eq (X : JX K own cc nL ret rm l D d) {x : Int32} [dc : Decidable (x = 0)] {r1 r2 : β} {off : Int} {tgt : Nat} (dd : decode cc pc = .ok (.ifCond .eq off, 3)) (ht : (pc : Int) + off = (tgt : Int)) (kA : x = 0 → Ju K cs ws L tgt st r1) (kB : ¬ x = 0 → Ju K cs ws L (pc + 3) st r2) : Ju K cs ws L pc (.int x :: st) (if x = 0 then r1 else r2) := by
  refine p_if_eq X dd ht (fun h => ?_) (fun h => ?_)
  · rw [if_pos h]; exact kA h
  · rw [if_neg h]; exact kB h
theorem l_if_eq (X : JX K own cc nL ret rm l D d) {x : Int32} [dc : Decidable (x = 0)] {γ : Type} {r1 r2 : γ} {f : γ → β} {off : Int} {tgt : Nat} (dd : decode cc pc = .ok (.ifCond .eq off, 3)) (ht : (pc : Int) + off = (tgt : Int)) (kA : x = 0 → Ju K cs ws L tgt st (lt r1 f)) (kB : ¬ x = 0 → Ju K cs ws L (pc + 3) st (lt r2 f)) : Ju K cs ws L pc (.int x :: st) (lt (if x = 0 then r1 else r2) f) := by
  refine p_if_eq X dd ht (fun h => ?_) (fun h => ?_)
  · rw [if_pos h]; exact kA h
  · rw [if_neg h]; exact kB h
theorem p_if_ne (X : JX K own cc nL ret rm l D d) {x : Int32} {off : Int} {tgt : Nat} (dd : decode cc pc = .ok (.ifCond .ne off, 3)) (ht : (pc : Int) + off = (tgt : Int)) (kA : x = 0 → Ju K cs ws L (pc + 3) st r) (kB : ¬ x = 0 → Ju K cs ws L tgt st r) : Ju K cs ws L pc (.int x :: st) r := by
  obtain ⟨⟨p, l1, e, R, s, m, args, below, meth, c⟩, ⟨D1, d1, A⟩, Qf, nL1⟩ := K
  obtain ⟨hx, hb, hr, hml, hown, hts, hK, hN, hlk, hA, rfl, rfl, rfl, rfl, rfl⟩ := X
  intro H locs ls hP hD hS hl
  exact lv_if_ne hx hb dd ht (fun h => kB h H locs ls hP hD hS hl) (fun h => kA h H locs ls hP hD hS hl)
theorem j_if_ne (X : JX K own cc nL ret rm l D d) {x : Int32} [dc : Decidable (x = 0)] {r1 r2 : β} {off : Int} {tgt : Nat} (dd : decode cc pc = .ok (.ifCond .ne off, 3)) (ht : (pc : Int) + off = (tgt : Int)) (kA : x = 0 → Ju K cs ws L (pc + 3) st r1) (kB : ¬ x = 0 → Ju K cs ws L tgt st r2) : Ju K cs ws L pc (.int x :: st) (if x = 0 then r1 else r2) := by
  refine p_if_ne X dd ht (fun h => ?_) (fun h => ?_)
  · rw [if_pos h]; exact kA h
  · rw [if_neg h]; exact kB h
theorem l_if_ne (X : JX K own cc nL ret rm l D d) {x : Int32} [dc : Decidable (x = 0)] {γ : Type} {r1 r2 : γ} {f : γ → β} {off : Int} {tgt : Nat} (dd : decode cc pc = .ok (.ifCond .ne off, 3)) (ht : (pc : Int) + off = (tgt : Int)) (kA : x = 0 → Ju K cs ws L (pc + 3) st (lt r1 f)) (kB : ¬ x = 0 → Ju K cs ws L tgt st (lt r2 f)) : Ju K cs ws L pc (.int x :: st) (lt (if x = 0 then r1 else r2) f) := by
  refine p_if_ne X dd ht (fun h => ?_) (fun h => ?_)
  · rw [if_pos h]; exact kA h
  · rw [if_neg h]; exact kB h
theorem p_if_lt (X : JX K own cc nL ret rm l D d) {x : Int32} {off : Int} {tgt : Nat} (dd : decode cc pc = .ok (.ifCond .lt off, 3)) (ht : (pc : Int) + off = (tgt : Int)) (kA : x < 0 → Ju K cs ws L tgt st r) (kB : ¬ x < 0 → Ju K cs ws L (pc + 3) st r) : Ju K cs ws L pc (.int x :: st) r := by
  obtain ⟨⟨p, l1, e, R, s, m, args, below, meth, c⟩, ⟨D1, d1, A⟩, Qf, nL1⟩ := K
  obtain ⟨hx, hb, hr, hml, hown, hts, hK, hN, hlk, hA, rfl, rfl, rfl, rfl, rfl⟩ := X
  intro H locs ls hP hD hS hl
  exact lv_if_lt hx hb dd ht (fun h => kA h H locs ls hP hD hS hl) (fun h => kB h H locs ls hP hD hS hl)
theorem j_if_lt (X : JX K own cc nL ret rm l D d) {x : Int32} [dc : Decidable (x < 0)] {r1 r2 : β} {off : Int} {tgt : Nat} (dd : decode cc pc = .ok (.ifCond .lt off, 3)) (ht : (pc : Int) + off = (tgt : Int)) (kA : x < 0 → Ju K cs ws L tgt st r1) (kB : ¬ x < 0 → Ju K cs ws L (pc + 3) st r2) : Ju K cs ws L pc (.int x :: st) (if x < 0 then r1 else r2) := by
  refine p_if_lt X dd ht (fun h => ?_) (fun h => ?_)
  · rw [if_pos h]; exact kA h
  · rw [if_neg h]; exact kB h
theorem l_if_lt (X : JX K own cc nL ret rm l D d) {x : Int32} [dc : Decidable (x < 0)] {γ : Type} {r1 r2 : γ} {f : γ → β} {off : Int} {tgt : Nat} (dd : decode cc pc = .ok (.ifCond .lt off, 3)) (ht : (pc : Int) + off = (tgt : Int)) (kA : x < 0 → Ju K cs ws L tgt st (lt r1 f)) (kB : ¬ x < 0 → Ju K cs ws L (pc + 3) st (lt r2 f)) : Ju K cs ws L pc (.int x :: st) (lt (if x < 0 then r1 else r2) f) := by
  refine p_if_lt X dd ht (fun h => ?_) (fun h => ?_)
  · rw [if_pos h]; exact kA h
  · rw [if_neg h]; exact kB h
theorem p_if_ge (X : JX K own cc nL ret rm l D d) {x : Int32} {off : Int} {tgt : Nat} (dd : decode cc pc = .ok (.ifCond .ge off, 3)) (ht : (pc : Int) + off = (tgt : Int)) (kA : x < 0 → Ju K cs ws L (pc + 3) st r) (kB : ¬ x < 0 → Ju K cs ws L tgt st r) : Ju K cs ws L pc (.int x :: st) r := by
  obtain ⟨⟨p, l1, e, R, s, m, args, below, meth, c⟩, ⟨D1, d1, A⟩, Qf, nL1⟩ := K
  obtain ⟨hx, hb, hr, hml, hown, hts, hK, hN, hlk, hA, rfl, rfl, rfl, rfl, rfl⟩ := X
  intro H locs ls hP hD hS hl
  exact lv_if_ge hx hb dd ht (fun h => kB (Int32.not_lt.mpr h) H locs ls hP hD hS hl) (fun h => kA (Int32.not_le.mp h) H locs ls hP hD hS hl)
theorem j_if_ge (X : JX K own cc nL ret rm l D d) {x : Int32} [dc : Decidable (x < 0)] {r1 r2 : β} {off : Int} {tgt : Nat} (dd : decode cc pc = .ok (.ifCond .ge off, 3)) (ht : (pc : Int) + off = (tgt : Int)) (kA : x < 0 → Ju K cs ws L (pc + 3) st r1) (kB : ¬ x < 0 → Ju K cs ws L tgt st r2) : Ju K cs ws L pc (.int x :: st) (if x < 0 then r1 else r2) := by
  refine p_if_ge X dd ht (fun h => ?_) (fun h => ?_)
  · rw [if_pos h]; exact kA h
  · rw [if_neg h]; exact kB h
theorem l_if_ge (X : JX K own cc nL ret rm l D d) {x : Int32} [dc : Decidable (x < 0)] {γ : Type} {r1 r2 : γ} {f : γ → β} {off : Int} {tgt : Nat} (dd : decode cc pc = .ok (.ifCond .ge off, 3)) (ht : (pc : Int) + off = (tgt : Int)) (kA : x < 0 → Ju K cs ws L (pc + 3) st (lt r1 f)) (kB : ¬ x < 0 → Ju K cs ws L tgt st (lt r2 f)) : Ju K cs ws L pc (.int x :: st) (lt (if x < 0 then r1 else r2) f) := by
  refine p_if_ge X dd ht (fun h => ?_) (fun h => ?_)
  · rw [if_pos h]; exact kA h
  · rw [if_neg h]; exact kB h
theorem p_if_gt (X : JX K own cc nL ret rm l D d) {x : Int32} {off : Int} {tgt : Nat} (dd : decode cc pc = .ok (.ifCond .gt off, 3)) (ht : (pc : Int) + off = (tgt : Int)) (kA : 0 < x → Ju K cs ws L tgt st r) (kB : ¬ 0 < x → Ju K cs ws L (pc + 3) st r) : Ju K cs ws L pc (.int x :: st) r := by
  obtain ⟨⟨p, l1, e, R, s, m, args, below, meth, c⟩, ⟨D1, d1, A⟩, Qf, nL1⟩ := K
  obtain ⟨hx, hb, hr, hml, hown, hts, hK, hN, hlk, hA, rfl, rfl, rfl, rfl, rfl⟩ := X
  intro H locs ls hP hD hS hl
  exact lv_if_gt hx hb dd ht (fun h => kA h H locs ls hP hD hS hl) (fun h => kB h H locs ls hP hD hS hl)
theorem j_if_gt (X : JX K own cc nL ret rm l D d) {x : Int32} [dc : Decidable (0 < x)] {r1 r2 : β} {off : Int} {tgt : Nat} (dd : decode cc pc = .ok (.ifCond .gt off, 3)) (ht : (pc : Int) + off = (tgt : Int)) (kA : 0 < x → Ju K cs ws L tgt st r1) (kB : ¬ 0 < x → Ju K cs ws L (pc + 3) st r2) : Ju K cs ws L pc (.int x :: st) (if 0 < x then r1 else r2) := by
  refine p_if_gt X dd ht (fun h => ?_) (fun h => ?_)
  · rw [if_pos h]; exact kA h
  · rw [if_neg h]; exact kB h
theorem l_if_gt (X : JX K own cc nL ret rm l D d) {x : Int32} [dc : Decidable (0 < x)] {γ : Type} {r1 r2 : γ} {f : γ → β} {off : Int} {tgt : Nat} (dd : decode cc pc = .ok (.ifCond .gt off, 3)) (ht : (pc : Int) + off = (tgt : Int)) (kA : 0 < x → Ju K cs ws L tgt st (lt r1 f)) (kB : ¬ 0 < x → Ju K cs ws L (pc + 3) st (lt r2 f)) : Ju K cs ws L pc (.int x :: st) (lt (if 0 < x then r1 else r2) f) := by
  refine p_if_gt X dd ht (fun h => ?_) (fun h => ?_)
  · rw [if_pos h]; exact kA h
  · rw [if_neg h]; exact kB h
theorem p_if_le (X : JX K own cc nL ret rm l D d) {x : Int32} {off : Int} {tgt : Nat} (dd : decode cc pc = .ok (.ifCond .le off, 3)) (ht : (pc : Int) + off = (tgt : Int)) (kA : 0 < x → Ju K cs ws L (pc + 3) st r) (kB : ¬ 0 < x → Ju K cs ws L tgt st r) : Ju K cs ws L pc (.int x :: st) r := by
  obtain ⟨⟨p, l1, e, R, s, m, args, below, meth, c⟩, ⟨D1, d1, A⟩, Qf, nL1⟩ := K
  obtain ⟨hx, hb, hr, hml, hown, hts, hK, hN, hlk, hA, rfl, rfl, rfl, rfl, rfl⟩ := X
  intro H locs ls hP hD hS hl
  exact lv_if_le hx hb dd ht (fun h => kB (Int32.not_lt.mpr h) H locs ls hP hD hS hl) (fun h => kA (Int32.not_le.mp h) H locs ls hP hD hS hl)
theorem j_if_le (X : JX K own cc nL ret rm l D d) {x : Int32} [dc : Decidable (0 < x)] {r1 r2 : β} {off : Int} {tgt : Nat} (dd : decode cc pc = .ok (.ifCond .le off, 3)) (ht : (pc : Int) + off = (tgt : Int)) (kA : 0 < x → Ju K cs ws L (pc + 3) st r1) (kB : ¬ 0 < x → Ju K cs ws L tgt st r2) : Ju K cs ws L pc (.int x :: st) (if 0 < x then r1 else r2) := by
  refine p_if_le X dd ht (fun h => ?_) (fun h => ?_)
  · rw [if_pos h]; exact kA h
  · rw [if_neg h]; exact kB h
theorem l_if_le (X : JX K own cc nL ret rm l D d) {x : Int32} [dc : Decidable (0 < x)] {γ : Type} {r1 r2 : γ} {f : γ → β} {off : Int} {tgt : Nat} (dd : decode cc pc = .ok (.ifCond .le off, 3)) (ht : (pc : Int) + off = (tgt : Int)) (kA : 0 < x → Ju K cs ws L (pc + 3) st (lt r1 f)) (kB : ¬ 0 < x → Ju K cs ws L tgt st (lt r2 f)) : Ju K cs ws L pc (.int x :: st) (lt (if 0 < x then r1 else r2) f) := by
  refine p_if_le X dd ht (fun h => ?_) (fun h => ?_)
  · rw [if_pos h]; exact kA h
  · rw [if_neg h]; exact kB h
theorem p_icmp_eq (X : JX K own cc nL ret rm l D d) {x y : Int32} {off : Int} {tgt : Nat} (dd : decode cc pc = .ok (.if_icmp .eq off, 3)) (ht : (pc : Int) + off = (tgt : Int)) (kA : x = y → Ju K cs ws L tgt st r) (kB : ¬ x = y → Ju K cs ws L (pc + 3) st r) : Ju K cs ws L pc (.int y :: .int x :: st) r := by
  obtain ⟨⟨p, l1, e, R, s, m, args, below, meth, c⟩, ⟨D1, d1, A⟩, Qf, nL1⟩ := K
  obtain ⟨hx, hb, hr, hml, hown, hts, hK, hN, hlk, hA, rfl, rfl, rfl, rfl, rfl⟩ := X
  intro H locs ls hP hD hS hl
  exact lv_icmp_eq hx hb dd ht (fun h => kA h H locs ls hP hD hS hl) (fun h => kB h H locs ls hP hD hS hl)
theorem j_icmp_eq (X : JX K own cc nL ret rm l D d) {x y : Int32} [dc : Decidable (x = y)] {r1 r2 : β} {off : Int} {tgt : Nat} (dd : decode cc pc = .ok (.if_icmp .eq off, 3)) (ht : (pc : Int) + off = (tgt : Int)) (kA : x = y → Ju K cs ws L tgt st r1) (kB : ¬ x = y → Ju K cs ws L (pc + 3) st r2) : Ju K cs ws L pc (.int y :: .int x :: st) (if x = y then r1 else r2) := by
  refine p_icmp_eq X dd ht (fun h => ?_) (fun h => ?_)
  · rw [if_pos h]; exact kA h
  · rw [if_neg h]; exact kB h
theorem l_icmp_eq (X : JX K own cc nL ret rm l D d) {x y : Int32} [dc : Decidable (x = y)] {γ : Type} {r1 r2 : γ} {f : γ → β} {off : Int} {tgt : Nat} (dd : decode cc pc = .ok (.if_icmp .eq off, 3)) (ht : (pc : Int) + off = (tgt : Int)) (kA : x = y → Ju K cs ws L tgt st (lt r1 f)) (kB : ¬ x = y → Ju K cs ws L (pc + 3) st (lt r2 f)) : Ju K cs ws L pc (.int y :: .int x :: st) (lt (if x = y then r1 else r2) f) := by
  refine p_icmp_eq X dd ht (fun h => ?_) (fun h => ?_)
  · rw [if_pos h]; exact kA h
  · rw [if_neg h]; exact kB h
theorem p_icmp_ne (X : JX K own cc nL ret rm l D d) {x y : Int32} {off : Int} {tgt : Nat} (dd : decode cc pc = .ok (.if_icmp .ne off, 3)) (ht : (pc : Int) + off = (tgt : Int)) (kA : x = y → Ju K cs ws L (pc + 3) st r) (kB : ¬ x = y → Ju K cs ws L tgt st r) : Ju K cs ws L pc (.int y :: .int x :: st) r := by
  obtain ⟨⟨p, l1, e, R, s, m, args, below, meth, c⟩, ⟨D1, d1, A⟩, Qf, nL1⟩ := K
  obtain ⟨hx, hb, hr, hml, hown, hts, hK, hN, hlk, hA, rfl, rfl, rfl, rfl, rfl⟩ := X
  intro H locs ls hP hD hS hl
  exact lv_icmp_ne hx hb dd ht (fun h => kB h H locs ls hP hD hS hl) (fun h => kA h H locs ls hP hD hS hl)
theorem j_icmp_ne (X : JX K own cc nL ret rm l D d) {x y : Int32} [dc : Decidable (x = y)] {r1 r2 : β} {off : Int} {tgt : Nat} (dd : decode cc pc = .ok (.if_icmp .ne off, 3)) (ht : (pc : Int) + off = (tgt : Int)) (kA : x = y → Ju K cs ws L (pc + 3) st r1) (kB : ¬ x = y → Ju K cs ws L tgt st r2) : Ju K cs ws L pc (.int y :: .int x :: st) (if x = y then r1 else r2) := by
  refine p_icmp_ne X dd ht (fun h => ?_) (fun h => ?_)
  · rw [if_pos h]; exact kA h
  · rw [if_neg h]; exact kB h
theorem l_icmp_ne (X : JX K own cc nL ret rm l D d) {x y : Int32} [dc : Decidable (x = y)] {γ : Type} {r1 r2 : γ} {f : γ → β} {off : Int} {tgt : Nat} (dd : decode cc pc = .ok (.if_icmp .ne off, 3)) (ht : (pc : Int) + off = (tgt : Int)) (kA : x = y → Ju K cs ws L (pc + 3) st (lt r1 f)) (kB : ¬ x = y → Ju K cs ws L tgt st (lt r2 f)) : Ju K cs ws L pc (.int y :: .int x :: st) (lt (if x = y then r1 else r2) f) := by
  refine p_icmp_ne X dd ht (fun h => ?_) (fun h => ?_)
  · rw [if_pos h]; exact kA h
  · rw [if_neg h]; exact kB h
theorem p_icmp_lt (X : JX K own cc nL ret rm l D d) {x y : Int32} {off : Int} {tgt : Nat} (dd : decode cc pc = .ok (.if_icmp .lt off, 3)) (ht : (pc : Int) + off = (tgt : Int)) (kA : x < y → Ju K cs ws L tgt st r) (kB : ¬ x < y → Ju K cs ws L (pc + 3) st r) : Ju K cs ws L pc (.int y :: .int x :: st) r := by
  obtain ⟨⟨p, l1, e, R, s, m, args, below, meth, c⟩, ⟨D1, d1, A⟩, Qf, nL1⟩ := K
  obtain ⟨hx, hb, hr, hml, hown, hts, hK, hN, hlk, hA, rfl, rfl, rfl, rfl, rfl⟩ := X
  intro H locs ls hP hD hS hl
  exact lv_icmp_lt hx hb dd ht (fun h => kA h H locs ls hP hD hS hl) (fun h => kB h H locs ls hP hD hS hl)
theorem j_icmp_lt (X : JX K own cc nL ret rm l D d) {x y : Int32} [dc : Decidable (x < y)] {r1 r2 : β} {off : Int} {tgt : Nat} (dd : decode cc pc = .ok (.if_icmp .lt off, 3)) (ht : (pc : Int) + off = (tgt : Int)) (kA : x < y → Ju K cs ws L tgt st r1) (kB : ¬ x < y → Ju K cs ws L (pc + 3) st r2) : Ju K cs ws L pc (.int y :: .int x :: st) (if x < y then r1 else r2) := by
  refine p_icmp_lt X dd ht (fun h => ?_) (fun h => ?_)
  · rw [if_pos h]; exact kA h
  · rw [if_neg h]; exact kB h
theorem l_icmp_lt (X : JX K own cc nL ret rm l D d) {x y : Int32} [dc : Decidable (x < y)] {γ : Type} {r1 r2 : γ} {f : γ → β} {off : Int} {tgt : Nat} (dd : decode cc pc = .ok (.if_icmp .lt off, 3)) (ht : (pc : Int) + off = (tgt : Int)) (kA : x < y → Ju K cs ws L tgt st (lt r1 f)) (kB : ¬ x < y → Ju K cs ws L (pc + 3) st (lt r2 f)) : Ju K cs ws L pc (.int y :: .int x :: st) (lt (if x < y then r1 else r2) f) := by
  refine p_icmp_lt X dd ht (fun h => ?_) (fun h => ?_)
  · rw [if_pos h]; exact kA h
  · rw [if_neg h]; exact kB h
theorem p_icmp_ge (X : JX K own cc nL ret rm l D d) {x y : Int32} {off : Int} {tgt : Nat} (dd : decode cc pc = .ok (.if_icmp .ge off, 3)) (ht : (pc : Int) + off = (tgt : Int)) (kA : x < y → Ju K cs ws L (pc + 3) st r) (kB : ¬ x < y → Ju K cs ws L tgt st r) : Ju K cs ws L pc (.int y :: .int x :: st) r := by
  obtain ⟨⟨p, l1, e, R, s, m, args, below, meth, c⟩, ⟨D1, d1, A⟩, Qf, nL1⟩ := K
  obtain ⟨hx, hb, hr, hml, hown, hts, hK, hN, hlk, hA, rfl, rfl, rfl, rfl, rfl⟩ := X
  intro H locs ls hP hD hS hl
  exact lv_icmp_ge hx hb dd ht (fun h => kB (Int32.not_lt.mpr h) H locs ls hP hD hS hl) (fun h => kA (Int32.not_le.mp h) H locs ls hP hD hS hl)
theorem j_icmp_ge (X : JX K own cc nL ret rm l D d) {x y : Int32} [dc : Decidable (x < y)] {r1 r2 : β} {off : Int} {tgt : Nat} (dd : decode cc pc = .ok (.if_icmp .ge off, 3)) (ht : (pc : Int) + off = (tgt : Int)) (kA : x < y → Ju K cs ws L (pc + 3) st r1) (kB : ¬ x < y → Ju K cs ws L tgt st r2) : Ju K cs ws L pc (.int y :: .int x :: st) (if x < y then r1 else r2) := by
  refine p_icmp_ge X dd ht (fun h => ?_) (fun h => ?_)
  · rw [if_pos h]; exact kA h
  · rw [if_neg h]; exact kB h
theorem l_icmp_ge (X : JX K own cc nL ret rm l D d) {x y : Int32} [dc : Decidable (x < y)] {γ : Type} {r1 r2 : γ} {f : γ → β} {off : Int} {tgt : Nat} (dd : decode cc pc = .ok (.if_icmp .ge off, 3)) (ht : (pc : Int) + off = (tgt : Int)) (kA : x < y → Ju K cs ws L (pc + 3) st (lt r1 f)) (kB : ¬ x < y → Ju K cs ws L tgt st (lt r2 f)) : Ju K cs ws L pc (.int y :: .int x :: st) (lt (if x < y then r1 else r2) f) := by
  refine p_icmp_ge X dd ht (fun h => ?_) (fun h => ?_)
  · rw [if_pos h]; exact kA h
  · rw [if_neg h]; exact kB h
theorem p_icmp_gt (X : JX K own cc nL ret rm l D d) {x y : Int32} {off : Int} {tgt : Nat} (dd : decode cc pc = .ok (.if_icmp .gt off, 3)) (ht : (pc : Int) + off = (tgt : Int)) (kA : y < x → Ju K cs ws L tgt st r) (kB : ¬ y < x → Ju K cs ws L (pc + 3) st r) : Ju K cs ws L pc (.int y :: .int x :: st) r := by
  obtain ⟨⟨p, l1, e, R, s, m, args, below, meth, c⟩, ⟨D1, d1, A⟩, Qf, nL1⟩ := K
  obtain ⟨hx, hb, hr, hml, hown, hts, hK, hN, hlk, hA, rfl, rfl, rfl, rfl, rfl⟩ := X
  intro H locs ls hP hD hS hl
  exact lv_icmp_gt hx hb dd ht (fun h => kA h H locs ls hP hD hS hl) (fun h => kB h H locs ls hP hD hS hl)
theorem j_icmp_gt (X : JX K own cc nL ret rm l D d) {x y : Int32} [dc : Decidable (y < x)] {r1 r2 : β} {off : Int} {tgt : Nat} (dd : decode cc pc = .ok (.if_icmp .gt off, 3)) (ht : (pc : Int) + off = (tgt : Int)) (kA : y < x → Ju K cs ws L tgt st r1) (kB : ¬ y < x → Ju K cs ws L (pc + 3) st r2) : Ju K cs ws L pc (.int y :: .int x :: st) (if y < x then r1 else r2) := by
  refine p_icmp_gt X dd ht (fun h => ?_) (fun h => ?_)
  · rw [if_pos h]; exact kA h
  · rw [if_neg h]; exact kB h
theorem l_icmp_gt (X : JX K own cc nL ret rm l D d) {x y : Int32} [dc : Decidable (y < x)] {γ : Type} {r1 r2 : γ} {f : γ → β} {off : Int} {tgt : Nat} (dd : decode cc pc = .ok (.if_icmp .gt off, 3)) (ht : (pc : Int) + off = (tgt : Int)) (kA : y < x → Ju K cs ws L tgt st (lt r1 f)) (kB : ¬ y < x → Ju K cs ws L (pc + 3) st (lt r2 f)) : Ju K cs ws L pc (.int y :: .int x :: st) (lt (if y < x then r1 else r2) f) := by
  refine p_icmp_gt X dd ht (fun h => ?_) (fun h => ?_)
  · rw [if_pos h]; exact kA h
  · rw [if_neg h]; exact kB h
theorem p_icmp_le (X : JX K own cc nL ret rm l D d) {x y : Int32} {off : Int} {tgt : Nat} (dd : decode cc pc = .ok (.if_icmp .le off, 3)) (ht : (pc : Int) + off = (tgt : Int)) (kA : y < x → Ju K cs ws L (pc + 3) st r) (kB : ¬ y < x → Ju K cs ws L tgt st r) : Ju K cs ws L pc (.int y :: .int x :: st) r := by
  obtain ⟨⟨p, l1, e, R, s, m, args, below, meth, c⟩, ⟨D1, d1, A⟩, Qf, nL1⟩ := K
  obtain ⟨hx, hb, hr, hml, hown, hts, hK, hN, hlk, hA, rfl, rfl, rfl, rfl, rfl⟩ := X
  intro H locs ls hP hD hS hl
  exact lv_icmp_le hx hb dd ht (fun h => kB (Int32.not_lt.mpr h) H locs ls hP hD hS hl) (fun h => kA (Int32.not_le.mp h) H locs ls hP hD hS hl)
theorem j_icmp_le (X : JX K own cc nL ret rm l D d) {x y : Int32} [dc : Decidable (y < x)] {r1 r2 : β} {off : Int} {tgt : Nat} (dd : decode cc pc = .ok (.if_icmp .le off, 3)) (ht : (pc : Int) + off = (tgt : Int)) (kA : y < x → Ju K cs ws L (pc + 3) st r1) (kB : ¬ y < x → Ju K cs ws L tgt st r2) : Ju K cs ws L pc (.int y :: .int x :: st) (if y < x then r1 else r2) := by
  refine p_icmp_le X dd ht (fun h => ?_) (fun h => ?_)
  · rw [if_pos h]; exact kA h
  · rw [if_neg h]; exact kB h
theorem l_icmp_le (X : JX K own cc nL ret rm l D d) {x y : Int32} [dc : Decidable (y < x)] {γ : Type} {r1 r2 : γ} {f : γ → β} {off : Int} {tgt : Nat} (dd : decode cc pc = .ok (.if_icmp .le off, 3)) (ht : (pc : Int) + off = (tgt : Int)) (kA : y < x → Ju K cs ws L (pc + 3) st (lt r1 f)) (kB : ¬ y < x → Ju K cs ws L tgt st (lt r2 f)) : Ju K cs ws L pc (.int y :: .int x :: st) (lt (if y < x then r1 else r2) f) := by
  refine p_icmp_le X dd ht (fun h => ?_) (fun h => ?_)
  · rw [if_pos h]; exact kA h
  · rw [if_neg h]; exact kB h
theorem j_goto (X : JX K own cc nL ret rm l D d) {off : Int} {tgt : Nat} (dd : decode cc pc = .ok (.goto off, 3)) (ht : (pc : Int) + off = (tgt : Int)) (k : Ju K cs ws L tgt st r) : Ju K cs ws L pc st r := by
  obtain ⟨⟨p, l1, e, R, s, m, args, below, meth, c⟩, ⟨D1, d1, A⟩, Qf, nL1⟩ := K
  obtain ⟨hx, hb, hr, hml, hown, hts, hK, hN, hlk, hA, rfl, rfl, rfl, rfl, rfl⟩ := X
  intro H locs ls hP hD hS hl
  exact lv_goto hx hb dd ht (k H locs ls hP hD hS hl)
theorem j_lookup (X : JX K own cc nL ret rm l D d) {dflt : Int} {ps : Array (Int × Int)} {len : Nat} {x : Int32} {off : Int} {tgt : Nat} (dd : decode cc pc = .ok (.lookupswitch dflt ps, len)) (hp : (ps.toList.zip (ps.toList.drop 1)).all (fun (a, next) => a.1 < next.1) = true) (ho : Op.lookupswitch.offset ps.toList dflt x.toInt = off) (ht : (pc : Int) + off = (tgt : Int)) (k : Ju K cs ws L tgt st r) : Ju K cs ws L pc (.int x :: st) r := by
  obtain ⟨⟨p, l1, e, R, s, m, args, below, meth, c⟩, ⟨D1, d1, A⟩, Qf, nL1⟩ := K
  obtain ⟨hx, hb, hr, hml, hown, hts, hK, hN, hlk, hA, rfl, rfl, rfl, rfl, rfl⟩ := X
  intro H locs ls hP hD hS hl
  exact lv_lookup hx hb dd hp ho ht (k H locs ls hP hD hS hl)
theorem j_tableOut (X : JX K own cc nL ret rm l D d) {dflt lo hi : Int} {offs : Array Int} {len : Nat} {x : Int32} {tgt : Nat} (dd : decode cc pc = .ok (.tableswitch dflt lo hi offs, len)) (h : x.toInt < lo ∨ hi < x.toInt) (ht : (pc : Int) + dflt = (tgt : Int)) (k : Ju K cs ws L tgt st r) : Ju K cs ws L pc (.int x :: st) r := by
  obtain ⟨⟨p, l1, e, R, s, m, args, below, meth, c⟩, ⟨D1, d1, A⟩, Qf, nL1⟩ := K
  obtain ⟨hx, hb, hr, hml, hown, hts, hK, hN, hlk, hA, rfl, rfl, rfl, rfl, rfl⟩ := X
  intro H locs ls hP hD hS hl
  exact lv_tableOut hx hb dd h ht (k H locs ls hP hD hS hl)
theorem j_tableIn (X : JX K own cc nL ret rm l D d) {dflt lo hi : Int} {offs : Array Int} {len : Nat} {x : Int32} {off : Int} {tgt : Nat} (dd : decode cc pc = .ok (.tableswitch dflt lo hi offs, len)) (h1 : ¬ x.toInt < lo) (h2 : ¬ hi < x.toInt) (ho : offs[(x.toInt - lo).toNat]? = some off) (ht : (pc : Int) + off = (tgt : Int)) (k : Ju K cs ws L tgt st r) : Ju K cs ws L pc (.int x :: st) r := by
  obtain ⟨⟨p, l1, e, R, s, m, args, below, meth, c⟩, ⟨D1, d1, A⟩, Qf, nL1⟩ := K
  obtain ⟨hx, hb, hr, hml, hown, hts, hK, hN, hlk, hA, rfl, rfl, rfl, rfl, rfl⟩ := X
  intro H locs ls hP hD hS hl
  exact lv_tableIn hx hb dd h1 h2 ho ht (k H locs ls hP hD hS hl)
theorem j_ifnull (X : JX K own cc nL ret rm l D d) {x : Nat} {off : Int} (dd : decode cc pc = .ok (.ifnull off, 3)) (k : Ju K cs ws L (pc + 3) st r) : Ju K cs ws L pc (.ref x :: st) r := by
  obtain ⟨⟨p, l1, e, R, s, m, args, below, meth, c⟩, ⟨D1, d1, A⟩, Qf, nL1⟩ := K
  obtain ⟨hx, hb, hr, hml, hown, hts, hK, hN, hlk, hA, rfl, rfl, rfl, rfl, rfl⟩ := X
  intro H locs ls hP hD hS hl
  exact lv_ifnull hx hb dd (k H locs ls hP hD hS hl)
theorem j_ifnullN (X : JX K own cc nL ret rm l D d) {off : Int} {tgt : Nat} (dd : decode cc pc = .ok (.ifnull off, 3)) (ht : (pc : Int) + off = (tgt : Int)) (k : Ju K cs ws L tgt st r) : Ju K cs ws L pc (.null :: st) r := by
  obtain ⟨⟨p, l1, e, R, s, m, args, below, meth, c⟩, ⟨D1, d1, A⟩, Qf, nL1⟩ := K
  obtain ⟨hx, hb, hr, hml, hown, hts, hK, hN, hlk, hA, rfl, rfl, rfl, rfl, rfl⟩ := X
  intro H locs ls hP hD hS hl
  exact lv_ifnullN hx hb dd ht (k H locs ls hP hD hS hl)
theorem j_ifnonnull (X : JX K own cc nL ret rm l D d) {x : Nat} {off : Int} {tgt : Nat} (dd : decode cc pc = .ok (.ifnonnull off, 3)) (ht : (pc : Int) + off = (tgt : Int)) (k : Ju K cs ws L tgt st r) : Ju K cs ws L pc (.ref x :: st) r := by
  obtain ⟨⟨p, l1, e, R, s, m, args, below, meth, c⟩, ⟨D1, d1, A⟩, Qf, nL1⟩ := K
  obtain ⟨hx, hb, hr, hml, hown, hts, hK, hN, hlk, hA, rfl, rfl, rfl, rfl, rfl⟩ := X
  intro H locs ls hP hD hS hl
  exact lv_ifnonnull hx hb dd ht (k H locs ls hP hD hS hl)
theorem j_ifnonnullN (X : JX K own cc nL ret rm l D d) {off : Int} (dd : decode cc pc = .ok (.ifnonnull off, 3)) (k : Ju K cs ws L (pc + 3) st r) : Ju K cs ws L pc (.null :: st) r := by
  obtain ⟨⟨p, l1, e, R, s, m, args, below, meth, c⟩, ⟨D1, d1, A⟩, Qf, nL1⟩ := K
  obtain ⟨hx, hb, hr, hml, hown, hts, hK, hN, hlk, hA, rfl, rfl, rfl, rfl, rfl⟩ := X
  intro H locs ls hP hD hS hl
  exact lv_ifnonnullN hx hb dd (k H locs ls hP hD hS hl)
theorem j_lt {α : Type} {E : α} {f : α → β} (k : ∀ z, z = E → Ju K cs ws L pc st (f z)) : Ju K cs ws L pc st (lt E f) := k E rfl
/-- a computed number on top gets its name -/
theorem j_top {E : Int32} {f : Int32 → β} (k : ∀ z, z = E → Ju K cs ws L pc (.int z :: st) (f z)) : Ju K cs ws L pc (.int E :: st) (lt E f) := k E rfl
/-- several branches come together: what is said of the place where they do -/
theorem j_join {α : Type} {E : α} {f : α → β} {ws2 : va_W} {L2 : List (Nat × Value)} {pc2 : Nat} {st2 : List Value} (hJ : Prop) (h : hJ) (k : hJ → Ju K cs ws L pc st r) : Ju K cs ws L pc st r := k h
theorem j_cond {c : Prop} [dc : Decidable c] {r1 r2 : β} {T F : β → Prop} (kA : c → T r1) (kB : ¬ c → F r2) (k : (c → T (if c then r1 else r2)) → (¬ c → F (if c then r1 else r2)) → Ju K cs ws L pc st (if c then r1 else r2)) : Ju K cs ws L pc st (if c then r1 else r2) :=
  k (fun h => by rw [if_pos h]; exact kA h) (fun h => by rw [if_neg h]; exact kB h)
theorem j_get (X : JX K own cc nL ret rm l D d) {C ref : String} {T : u_T} {N ci index : Nat} {a : Nat} {fs : List Value} {v : Value} (hin : ∀ w ∈ u_ws C T N, w ∈ lw_all) (q0 : Nat) (he : ws[q0]? = some (a, .inr (ci, fs))) (hc : vwCl[ci]? = some (C, T, N)) (j : Nat) (hj : j < N) (hlink : Cond.fieldLink own index ref (T j).2.1 (T j).2.2.1 ∈ lw_all) (hsame : (T j).1 = ref ∨ Cond.sameField ref (T j).1 (T j).2.1 (T j).2.2.1 ∈ lw_all) (hv : fs[j]? = some v) (dd : decode cc pc = .ok (.getfield index, 3)) (k : Ju K cs ws L (pc + 3) (v :: st) r) : Ju K cs ws L pc (.ref a :: st) r := by
  obtain ⟨⟨p, l1, e, R, s, m, args, below, meth, c⟩, ⟨D1, d1, A⟩, Qf, nL1⟩ := K
  obtain ⟨hx, hb, hr, hml, hown, hts, hK, hN, hlk, hA, rfl, rfl, rfl, rfl, rfl⟩ := X
  intro H locs ls hP hD hS hl
  exact va_get hx hb hts hin hown hK hP q0 he hc j hj (hts _ hlink) (fun x hx2 => hsame.elim (fun h => by rw [← h]; exact hx2) (fun h => u_same (hts _ h) x hx2)) hv dd (k H locs ls hP hD hS hl)
theorem j_getN (X : JX K own cc nL ret rm l D d) {C ref host : String} {T : u_T} {N ci index : Nat} {a : Nat} {fs : List Value} {v : Value} (hin : ∀ w ∈ u_ws C T N, w ∈ lw_all) (q0 : Nat) (he : ws[q0]? = some (a, .inr (ci, fs))) (hc : vwCl[ci]? = some (C, T, N)) (j : Nat) (hj : j < N) (hlink : (own, index, ref, (T j).2.1, (T j).2.2.1, host) ∈ nfl) (hsame : (T j).1 = ref) (hv : fs[j]? = some v) (dd : decode cc pc = .ok (.getfield index, 3)) (k : Ju K cs ws L (pc + 3) (v :: st) r) : Ju K cs ws L pc (.ref a :: st) r := by
  obtain ⟨⟨p, l1, e, R, s, m, args, below, meth, c⟩, ⟨D1, d1, A⟩, Qf, nL1⟩ := K
  obtain ⟨hx, hb, hr, hml, hown, hts, hK, hN, hlk, hA, rfl, rfl, rfl, rfl, rfl⟩ := X
  intro H locs ls hP hD hS hl
  exact va_getN hx hb hts hin hown hK hP q0 he hc j hj (va_Nw.use rfl (hN.1 _ hlink)) (fun x hx2 => by rw [← hsame]; exact hx2) hv dd (k H locs ls hP hD hS hl)
theorem j_put (X : JX K own cc nL ret rm l D d) {C ref : String} {T : u_T} {N ci index : Nat} {a : Nat} {fs : List Value} {v : Value} {ty : FieldType} {ws1 : va_W} (hin : ∀ w ∈ u_ws C T N, w ∈ lw_all) (ty0 : Nat → FieldType) (hty : ∀ k, k < N → parseFieldDescriptor (T k).2.2.1 = some (ty0 k)) (hnm : ∀ a, a < N → ∀ b, b < N → a ≠ b → (T a).2.1 ≠ (T b).2.1) (q0 : Nat) (he : ws[q0]? = some (a, .inr (ci, fs))) (hc : vwCl[ci]? = some (C, T, N)) (j : Nat) (hj : j < N) (hlink : Cond.fieldLink own index ref (T j).2.1 (T j).2.2.1 ∈ lw_all) (hsame : (T j).1 = ref) (hfin : (T j).2.2.2 = false) (hd : parseFieldDescriptor (T j).2.2.1 = some ty) (hn : narrow ty v = v) (hfit : fits ty v = true) (hl2 : j < fs.length) (hw : ws.set q0 (a, .inr (ci, fs.set j v)) = ws1) (dd : decode cc pc = .ok (.putfield index, 3)) (k : Ju K cs ws1 L (pc + 3) st r) : Ju K cs ws L pc (v :: .ref a :: st) r := by
  obtain ⟨⟨p, l1, e, R, s, m, args, below, meth, c⟩, ⟨D1, d1, A⟩, Qf, nL1⟩ := K
  obtain ⟨hx, hb, hr, hml, hown, hts, hK, hN, hlk, hA, rfl, rfl, rfl, rfl, rfl⟩ := X
  intro H locs ls hP hD hS hl
  subst hw; exact va_put hx hb hts hin ty0 hty hnm hown hK hP hD hS q0 he hc j hj (hts _ hlink) (fun x hx2 => by rw [← hsame]; exact hx2) hfin hd hn hfit hl2 dd (fun H1 locs1 hP hD hS => k H1 locs1 ls hP hD hS hl)
theorem j_putN (X : JX K own cc nL ret rm l D d) {C ref host : String} {T : u_T} {N ci index : Nat} {a : Nat} {fs : List Value} {v : Value} {ty : FieldType} {ws1 : va_W} (hin : ∀ w ∈ u_ws C T N, w ∈ lw_all) (ty0 : Nat → FieldType) (hty : ∀ k, k < N → parseFieldDescriptor (T k).2.2.1 = some (ty0 k)) (hnm : ∀ a, a < N → ∀ b, b < N → a ≠ b → (T a).2.1 ≠ (T b).2.1) (q0 : Nat) (he : ws[q0]? = some (a, .inr (ci, fs))) (hc : vwCl[ci]? = some (C, T, N)) (j : Nat) (hj : j < N) (hlink : (own, index, ref, (T j).2.1, (T j).2.2.1, host) ∈ nfl) (hsame : (T j).1 = ref) (hfin : (T j).2.2.2 = false) (hd : parseFieldDescriptor (T j).2.2.1 = some ty) (hn : narrow ty v = v) (hfit : fits ty v = true) (hl2 : j < fs.length) (hw : ws.set q0 (a, .inr (ci, fs.set j v)) = ws1) (dd : decode cc pc = .ok (.putfield index, 3)) (k : Ju K cs ws1 L (pc + 3) st r) : Ju K cs ws L pc (v :: .ref a :: st) r := by
  obtain ⟨⟨p, l1, e, R, s, m, args, below, meth, c⟩, ⟨D1, d1, A⟩, Qf, nL1⟩ := K
  obtain ⟨hx, hb, hr, hml, hown, hts, hK, hN, hlk, hA, rfl, rfl, rfl, rfl, rfl⟩ := X
  intro H locs ls hP hD hS hl
  subst hw; exact va_putN hx hb hts hin ty0 hty hnm hown hK hP hD hS q0 he hc j hj (va_Nw.use rfl (hN.1 _ hlink)) (fun x hx2 => by rw [← hsame]; exact hx2) hfin hd hn hfit hl2 dd (fun H1 locs1 hP hD hS => k H1 locs1 ls hP hD hS hl)
theorem j_iald (X : JX K own cc nL ret rm l D d) {a n : Nat} {f : Nat → Int32} {i : Int32} (q0 : Nat) (ha : ws[q0]? = some (a, .inl (d 0, n, .inl f))) (hin : vp_in i n) (dd : decode cc pc = .ok (.iaload, 1)) (k : Ju K cs ws L (pc + 1) (.int (f i.toNatClampNeg) :: st) r) : Ju K cs ws L pc (.int i :: .ref a :: st) r := by
  obtain ⟨⟨p, l1, e, R, s, m, args, below, meth, c⟩, ⟨D1, d1, A⟩, Qf, nL1⟩ := K
  obtain ⟨hx, hb, hr, hml, hown, hts, hK, hN, hlk, hA, rfl, rfl, rfl, rfl, rfl⟩ := X
  intro H locs ls hP hD hS hl
  exact va_iald hx hb hK hP q0 0 ha rfl hin dd (k H locs ls hP hD hS hl)
theorem j_cald (X : JX K own cc nL ret rm l D d) {a n : Nat} {f : Nat → Int32} {i : Int32} (q0 : Nat) (ha : ws[q0]? = some (a, .inl (d 1, n, .inl f))) (hin : vp_in i n) (dd : decode cc pc = .ok (.caload, 1)) (k : Ju K cs ws L (pc + 1) (.int (f i.toNatClampNeg) :: st) r) : Ju K cs ws L pc (.int i :: .ref a :: st) r := by
  obtain ⟨⟨p, l1, e, R, s, m, args, below, meth, c⟩, ⟨D1, d1, A⟩, Qf, nL1⟩ := K
  obtain ⟨hx, hb, hr, hml, hown, hts, hK, hN, hlk, hA, rfl, rfl, rfl, rfl, rfl⟩ := X
  intro H locs ls hP hD hS hl
  exact va_cald hx hb hK hP q0 1 ha rfl hin dd (k H locs ls hP hD hS hl)
theorem j_zald (X : JX K own cc nL ret rm l D d) {a n : Nat} {f : Nat → Int32} {i : Int32} (q0 : Nat) (ha : ws[q0]? = some (a, .inl (d 2, n, .inl f))) (hin : vp_in i n) (dd : decode cc pc = .ok (.baload, 1)) (k : Ju K cs ws L (pc + 1) (.int (f i.toNatClampNeg) :: st) r) : Ju K cs ws L pc (.int i :: .ref a :: st) r := by
  obtain ⟨⟨p, l1, e, R, s, m, args, below, meth, c⟩, ⟨D1, d1, A⟩, Qf, nL1⟩ := K
  obtain ⟨hx, hb, hr, hml, hown, hts, hK, hN, hlk, hA, rfl, rfl, rfl, rfl, rfl⟩ := X
  intro H locs ls hP hD hS hl
  exact va_zald hx hb hK hP q0 2 ha rfl hin dd (k H locs ls hP hD hS hl)
theorem j_iast (X : JX K own cc nL ret rm l D d) {a n : Nat} {f : Nat → Int32} {i x y : Int32} {ws1 : va_W} (q0 : Nat) (ha : ws[q0]? = some (a, .inl (d 0, n, .inl f))) (hin : vp_in i n) (hy : x = y) (hw : ws.set q0 (a, .inl (d 0, n, .inl (upd f i.toNatClampNeg y))) = ws1) (dd : decode cc pc = .ok (.iastore, 1)) (k : Ju K cs ws1 L (pc + 1) st r) : Ju K cs ws L pc (.int x :: .int i :: .ref a :: st) r := by
  obtain ⟨⟨p, l1, e, R, s, m, args, below, meth, c⟩, ⟨D1, d1, A⟩, Qf, nL1⟩ := K
  obtain ⟨hx, hb, hr, hml, hown, hts, hK, hN, hlk, hA, rfl, rfl, rfl, rfl, rfl⟩ := X
  intro H locs ls hP hD hS hl
  subst hy; subst hw; exact va_iast hx hb hK hP hD hS q0 0 ha rfl hin dd (fun H1 locs1 hP hD hS => k H1 locs1 ls hP hD hS hl)
theorem j_cast (X : JX K own cc nL ret rm l D d) {a n : Nat} {f : Nat → Int32} {i x y : Int32} {ws1 : va_W} (q0 : Nat) (ha : ws[q0]? = some (a, .inl (d 1, n, .inl f))) (hin : vp_in i n) (hy : (vp_nar .char x) = y) (hw : ws.set q0 (a, .inl (d 1, n, .inl (upd f i.toNatClampNeg y))) = ws1) (dd : decode cc pc = .ok (.castore, 1)) (k : Ju K cs ws1 L (pc + 1) st r) : Ju K cs ws L pc (.int x :: .int i :: .ref a :: st) r := by
  obtain ⟨⟨p, l1, e, R, s, m, args, below, meth, c⟩, ⟨D1, d1, A⟩, Qf, nL1⟩ := K
  obtain ⟨hx, hb, hr, hml, hown, hts, hK, hN, hlk, hA, rfl, rfl, rfl, rfl, rfl⟩ := X
  intro H locs ls hP hD hS hl
  subst hy; subst hw; exact va_cast hx hb hK hP hD hS q0 1 ha rfl hin dd (fun H1 locs1 hP hD hS => k H1 locs1 ls hP hD hS hl)
theorem j_zast (X : JX K own cc nL ret rm l D d) {a n : Nat} {f : Nat → Int32} {i x y : Int32} {ws1 : va_W} (q0 : Nat) (ha : ws[q0]? = some (a, .inl (d 2, n, .inl f))) (hin : vp_in i n) (hy : (vp_nar .boolean x) = y) (hw : ws.set q0 (a, .inl (d 2, n, .inl (upd f i.toNatClampNeg y))) = ws1) (dd : decode cc pc = .ok (.bastore, 1)) (k : Ju K cs ws1 L (pc + 1) st r) : Ju K cs ws L pc (.int x :: .int i :: .ref a :: st) r := by
  obtain ⟨⟨p, l1, e, R, s, m, args, below, meth, c⟩, ⟨D1, d1, A⟩, Qf, nL1⟩ := K
  obtain ⟨hx, hb, hr, hml, hown, hts, hK, hN, hlk, hA, rfl, rfl, rfl, rfl, rfl⟩ := X
  intro H locs ls hP hD hS hl
  subst hy; subst hw; exact va_zast hx hb hK hP hD hS q0 2 ha rfl hin dd (fun H1 locs1 hP hD hS => k H1 locs1 ls hP hD hS hl)
theorem j_aald (X : JX K own cc nL ret rm l D d) {a n : Nat} {f : Nat → Option Nat} {i : Int32} {v : Value} (q0 : Nat) (ha : ws[q0]? = some (a, .inl (d 3, n, .inr (.inr (.inr (.inr f)))))) (hin : vp_in i n) (hv : va_rf (f i.toNatClampNeg) = v) (dd : decode cc pc = .ok (.aaload, 1)) (k : Ju K cs ws L (pc + 1) (v :: st) r) : Ju K cs ws L pc (.int i :: .ref a :: st) r := by
  obtain ⟨⟨p, l1, e, R, s, m, args, below, meth, c⟩, ⟨D1, d1, A⟩, Qf, nL1⟩ := K
  obtain ⟨hx, hb, hr, hml, hown, hts, hK, hN, hlk, hA, rfl, rfl, rfl, rfl, rfl⟩ := X
  intro H locs ls hP hD hS hl
  subst hv; exact va_aldq hx hb hK hP q0 3 ha rfl hin dd (k H locs ls hP hD hS hl)
theorem j_alen (X : JX K own cc nL ret rm l D d) {a : Nat} {x : vp_A} {t0 : Nat} {ty : FieldType} {v : Int32} (q0 : Nat) (ha : ws[q0]? = some (a, .inl (d t0, x))) (ht : (tysOf d)[t0]? = some (d t0, ty)) (hv : Int32.ofNat x.1 = v) (dd : decode cc pc = .ok (.arraylength, 1)) (k : Ju K cs ws L (pc + 1) (.int v :: st) r) : Ju K cs ws L pc (.ref a :: st) r := by
  obtain ⟨⟨p, l1, e, R, s, m, args, below, meth, c⟩, ⟨D1, d1, A⟩, Qf, nL1⟩ := K
  obtain ⟨hx, hb, hr, hml, hown, hts, hK, hN, hlk, hA, rfl, rfl, rfl, rfl, rfl⟩ := X
  intro H locs ls hP hD hS hl
  exact va_alen hx hb hK hP q0 t0 ha ht hv dd (k H locs ls hP hD hS hl)
theorem j_iret (X : JX K own cc nL (some .int) rm l D d) {ρ : β → Option Value × va_W} (hQ : JQ K ρ cs.1 cs.2) {v : Int32} (hρ : ρ r = (some (.int v), ws)) (dd : decode cc pc = .ok (.ireturn, 1)) : Ju K cs ws L pc [.int v] r := by
  obtain ⟨⟨p, l1, e, R, s, m, args, below, meth, c⟩, ⟨D1, d1, A⟩, Qf, nL1⟩ := K
  obtain ⟨hx, hb, hr, hml, hown, hts, hK, hN, hlk, hA, rfl, rfl, rfl, rfl, rfl⟩ := X
  intro H locs ls hP hD hS hl
  rw [hQ r]
  exact W.iret hx hb hr (fun t ht hW => ⟨⟨by rw [hρ], by rw [hρ, ht]; exact hP, by rw [hρ]; exact hD⟩, hS.F ht⟩) hS.2.2 dd hlk
theorem j_zret (X : JX K own cc nL (some .boolean) rm l D d) {ρ : β → Option Value × va_W} (hQ : JQ K ρ cs.1 cs.2) {v : Int32} (hn : narrow .boolean (.int v) = .int v) (hρ : ρ r = (some (.int v), ws)) (dd : decode cc pc = .ok (.ireturn, 1)) : Ju K cs ws L pc [.int v] r := by
  obtain ⟨⟨p, l1, e, R, s, m, args, below, meth, c⟩, ⟨D1, d1, A⟩, Qf, nL1⟩ := K
  obtain ⟨hx, hb, hr, hml, hown, hts, hK, hN, hlk, hA, rfl, rfl, rfl, rfl, rfl⟩ := X
  intro H locs ls hP hD hS hl
  rw [hQ r]
  exact W.zret hx hb hr hn (fun t ht hW => ⟨⟨by rw [hρ], by rw [hρ, ht]; exact hP, by rw [hρ]; exact hD⟩, hS.F ht⟩) hS.2.2 dd hlk
theorem j_vret (X : JX K own cc nL none rm l D d) {ρ : β → Option Value × va_W} (hQ : JQ K ρ cs.1 cs.2) (hρ : ρ r = (none, ws)) (dd : decode cc pc = .ok (.return_, 1)) : Ju K cs ws L pc [] r := by
  obtain ⟨⟨p, l1, e, R, s, m, args, below, meth, c⟩, ⟨D1, d1, A⟩, Qf, nL1⟩ := K
  obtain ⟨hx, hb, hr, hml, hown, hts, hK, hN, hlk, hA, rfl, rfl, rfl, rfl, rfl⟩ := X
  intro H locs ls hP hD hS hl
  rw [hQ r]
  exact W.vret hx hb hr (fun t ht hW => ⟨⟨by rw [hρ], by rw [hρ, ht]; exact hP, by rw [hρ]; exact hD⟩, hS.F ht⟩) hS.2.2 dd hlk
end JRows
/-- a contract: from the cells w0 the method y answers o.1 and leaves the cells o.2; nothing is made -/
def MC (l : Launch) (y : MethodName) (cc : ByteArray) (nL : Nat) (ret : Option FieldType) (rm : Room) (D : va_G) (d : Nat → ClassId) (av : List Value) (w0 : va_W) (o : Option Value × va_W) : Prop :=
  ∀ sz : Nat, Met l y (ws_ y cc nL ret) rm (va_Pc av (fun U => U.heap.size = sz ∧ va_P D vwCl w0 U.heap ∧ va_K D vwCl (tysOf d) U ∧ va_D (fun _ => True) w0 ∧ Nst U)) (Qo D (va_A w0 sz) o) 0 0 (va_A w0 sz)
theorem mc_intro {β : Type} {l : Launch} {y : MethodName} {cc : ByteArray} {nL : Nat} {ret : Option FieldType} {rm : Room} {D : va_G} {d : Nat → ClassId} {av : List Value} {w0 : va_W} {L : List (Nat × Value)} (ρ : β → Option Value × va_W) (res : β) (hy : plainName y.cls = true) (hlen : (lg_sl av).length ≤ nL) (hL : lv_args 0 av = L)
    (body : ∀ K : JK β, JX K y.cls cc nL ret rm l D d → JQ K ρ 0 0 → Ju K (0, 0) w0 L 0 [] res) : MC l y cc nL ret rm D d av w0 (ρ res) := by
  intro sz
  refine Met.ofW (cc := cc) (maxL := nL) (ret := ret) hy rfl ?_
  intro p e s m args below meth c s₁ B hml hv
  obtain ⟨rfl, hsz, hP, hK, hD0, hN⟩ := hv
  have hts := atoms_spec (ws := ws_ y cc nL ret) B.pre
  have hts : ∀ w ∈ lw_all, w.before _ s = true := fun w h => hts w (List.mem_cons_of_mem _ h)
  subst hsz
  have h := body ((p, l, e, rm, s, m, av.toArray, below, meth, c), (D, d, va_A w0 s.heap.size), (fun r => MQ below (Qo D (va_A w0 s.heap.size) (ρ r)) av.toArray s 0 0 (va_A w0 s.heap.size)), nL)
    ⟨B.exec, B.bytes, B.returns, hml, findClass_of_methodNamed B.named, hts, hK, hN, B.notSynchronized, fun q h => Or.inr h, rfl, rfl, rfl, rfl, rfl⟩ (fun _ => rfl)
  rw [lg_entry_eq]
  have hl := lv_entry av (n := nL) hlen
  rw [hL] at hl
  exact h s.heap [] _ hP hD0.self va_S.rf hl
/-- behind a call of a contract -/
theorem run_mc {p : Program} {l : Launch} {e : Env} {R : Room} {s : State} {m : MethodId} {args : Array Value} {below : List Frame} {meth : Method} {c : Code} {H : Heap} {locs : List Loc} {cells slots : Nat} {Q : State → Prop} {D : va_G} {A : Nat → Prop} {w0 fr : va_W} {o : Option Value × va_W} {pc : Nat} {ls : Array Slot} {st rest : List Value} {a : Array Value}
    (hr : va_Run p l e R s m args below meth c H locs cells slots 0 0 (F0 m pc ls st) rest (Qo D (va_A w0 H.size) o a) (va_A w0 H.size)) (hP : va_P D vwCl (w0 ++ fr) H) (hD : va_D A (w0 ++ fr)) (hS : va_S A s.heap H locs) (hA : ∀ q : Nat, s.heap.size ≤ q → A q)
    (k : ∀ (H1 : Heap) (locs1 : List Loc), va_P D vwCl (o.2 ++ fr) H1 → va_D A (o.2 ++ fr) → va_S A s.heap H1 locs1 → W p l e R s m args below meth c H1 locs1 cells slots Q (F0 m (pc + 3) ls (o.1.toList ++ rest))) : W p l e R s m args below meth c H locs cells slots Q (F0 m pc ls st) := by
  have hAA : ∀ q : Nat, va_A w0 H.size q → A q := by
    intro q hq
    rcases hq with ⟨j, e0, hj⟩ | hq
    · have hlt := (List.getElem?_eq_some_iff.mp hj).1
      exact hD.2 j (q, e0) (by rw [List.getElem?_append_left hlt]; exact hj)
    · exact hA q (Nat.le_trans hS.1 hq)
  intro T hT X
  obtain ⟨v, st₀, t, T', L, h0, X', hL, e1, e2, ⟨⟨hv, hp, hd⟩, hz, hk⟩, stp⟩ := hr T hT X
  cases hv
  rw [h0] at hz hk
  have hfr : ∀ (j : Nat) (q : Nat × va_E), fr[j]? = some q → q.1 < H.size ∧ ¬ va_A w0 H.size q.1 := by
    intro j q hj
    have hj' : (w0 ++ fr)[w0.length + j]? = some q := by rw [List.getElem?_append_right (Nat.le_add_right _ _), Nat.add_sub_cancel_left]; exact hj
    refine ⟨(hP _ q hj').lt, fun h => ?_⟩
    rcases h with ⟨i, e0, hi⟩ | h
    · have hlt := (List.getElem?_eq_some_iff.mp hi).1
      have hi' : (w0 ++ fr)[i]? = some (q.1, e0) := by rw [List.getElem?_append_left hlt]; exact hi
      have := hD.1 _ _ _ _ hj' hi' rfl
      omega
    · exact absurd (hP _ q hj').lt (Nat.not_lt.mpr h)
  have hP1 : va_P D vwCl (o.2 ++ fr) t.heap := by
    refine va_P.app hp (fun j q hj => ?_)
    have hj' : (w0 ++ fr)[w0.length + j]? = some q := by rw [List.getElem?_append_right (Nat.le_add_right _ _), Nat.add_sub_cancel_left]; exact hj
    exact (hP _ q hj').kept (hk q.1 (hfr j q hj).1 (hfr j q hj).2)
  have hD1 : va_D A (o.2 ++ fr) := by
    refine va_D.app (hd.weaken (fun _ _ _ h => hAA _ h)) ⟨fun i j x y hi hj hxy => ?_, fun j q hj => ?_⟩ (fun i j x y hi hj hxy => ?_)
    · have hi' : (w0 ++ fr)[w0.length + i]? = some x := by rw [List.getElem?_append_right (Nat.le_add_right _ _), Nat.add_sub_cancel_left]; exact hi
      have hj' : (w0 ++ fr)[w0.length + j]? = some y := by rw [List.getElem?_append_right (Nat.le_add_right _ _), Nat.add_sub_cancel_left]; exact hj
      have := hD.1 _ _ _ _ hi' hj' hxy
      omega
    · have hj' : (w0 ++ fr)[w0.length + j]? = some q := by rw [List.getElem?_append_right (Nat.le_add_right _ _), Nat.add_sub_cancel_left]; exact hj
      exact hD.2 _ q hj'
    · exact (hfr j y hj).2 (by rw [← hxy]; exact hd.2 i x hi)
  obtain ⟨t2, a1, b1⟩ := k t.heap (locs ++ L) hP1 hD1
    ⟨Nat.le_trans hS.1 hz, fun q h1 h2 => by rw [hk q (Nat.lt_of_lt_of_le h1 hS.1) (fun z => h2 (hAA q z))]; exact hS.2.1 q h1 h2, fun q hq => by
      rcases List.mem_append.mp hq with h | h
      · exact hS.2.2 q h
      · exact hAA _ (hL q h)⟩ T' e1 X'
  exact ⟨t2, stp t2 a1, b1⟩
theorem pre_mc {s : State} {H : Heap} {D : va_G} {d : Nat → ClassId} {A : Nat → Prop} {w0 fr : va_W} {av : List Value} (hP : va_P D vwCl (w0 ++ fr) H) (hD : va_D A (w0 ++ fr)) (hK : va_K D vwCl (tysOf d) s) (hN : Nst s) :
    FrameBlind (va_Pc av (fun U => U.heap.size = H.size ∧ va_P D vwCl w0 U.heap ∧ va_K D vwCl (tysOf d) U ∧ va_D (fun _ => True) w0 ∧ Nst U)) ∧ ∀ U : State, U.heap = H → s.WarmedH U.vm → va_Pc av (fun U => U.heap.size = H.size ∧ va_P D vwCl w0 U.heap ∧ va_K D vwCl (tysOf d) U ∧ va_D (fun _ => True) w0 ∧ Nst U) av.toArray U := by
  refine ⟨fun a U g mk q => ?_, fun U hU hW => ⟨rfl, by rw [hU], ?_, va_K.moved hW.alike hK, ?_, hN.warm hW⟩⟩
  · obtain ⟨q0, q1, qP, qK, qD, qN⟩ := q
    exact ⟨q0, q1, qP, va_K.moved (u := U) (U := U.calling g mk a) (Vm.Alike.refl U.vm) qK, qD, qN.calling⟩
  · rw [hU]
    intro j q hj
    have hlt := (List.getElem?_eq_some_iff.mp hj).1
    exact hP j q (by rw [List.getElem?_append_left hlt]; exact hj)
  · refine ⟨fun i j x y hi hj hxy => ?_, fun _ _ _ => trivial⟩
    have hi1 := (List.getElem?_eq_some_iff.mp hi).1
    have hj1 := (List.getElem?_eq_some_iff.mp hj).1
    exact hD.1 i j x y (by rw [List.getElem?_append_left hi1]; exact hi) (by rw [List.getElem?_append_left hj1]; exact hj) hxy
section JCalls
variable {β : Type} {K : JK β} {own : String} {cc : ByteArray} {nL : Nat} {ret : Option FieldType} {rm : Room} {l : Launch} {D : va_G} {d : Nat → ClassId} {cs : Nat × Nat} {ws : va_W} {L L' : List (Nat × Value)} {pc : Nat} {st rest : List Value} {r : β}
variable {C : String} {index maxL n : Nat} {y x : MethodName} {bytes : ByteArray} {rt : Option FieldType} {rm' : Room} {As : List Value} {b : Nat} {w0 fr : va_W} {o : Option Value × va_W} {qc : vw_C} {ci q0 : Nat} {fs : List Value}
/-- the frames and locals that a call asks -/
def RmOk (rm' : Room) (maxL : Nat) (rm : Room) : Prop := rm'.cells = 0 ∧ rm'.slots = 0 ∧ rm'.frames + 1 ≤ rm.frames ∧ 8 + (maxL + 11) + rm'.locals ≤ rm.locals
theorem rmOk_n {a b maxL : Nat} (h : a + 1 ≤ b) (hm : maxL ≤ 21) : RmOk (rmN a) maxL (rmN b) := ⟨rfl, rfl, h, by show 8 + (maxL + 11) + 40 * a ≤ 40 * b; omega⟩
theorem j_callV (X : JX K own cc nL ret rm l D d) (hM : MC l y bytes maxL rt rm' D d (.ref b :: As) w0 o) (hw : GoodIn lw_all (wsV own index C y (ws_ y bytes maxL rt))) (hd : y.cls = C ∧ y.cls ≠ "java/lang/invoke/MethodHandle" ∧ y.cls ≠ "java/lang/invoke/VarHandle" ∧ (parseMethodDescriptor y.desc).map (fun d => d.parameters.length) = some n) (hc : vwCl[ci]? = some qc) (hC : qc.1 = C) (he : w0[q0]? = some (b, .inr (ci, fs))) (hn : As.length = n) (hR : RmOk rm' maxL rm) (hcs : cs.1 ≤ rm.cells ∧ cs.2 ≤ rm.slots) (hst : st = As.reverse ++ .ref b :: rest) (hrest : (rest.map fun v => v.category).sum ≤ 8) (hws : ws = w0 ++ fr) (dd : decode cc pc = .ok (.invokevirtual index, 3))
    (k : Ju K cs (o.2 ++ fr) L (pc + 3) (o.1.toList ++ rest) r) : Ju K cs ws L pc st r := by
  obtain ⟨⟨p, l1, e, R, s, m, args, below, meth, c⟩, ⟨D1, d1, A⟩, Qf, nL1⟩ := K
  obtain ⟨hx, hb, hr, hml, hown, hts, hK, hN, hlk, hA, rfl, rfl, rfl, rfl, rfl⟩ := X
  intro H locs ls hP hD hS hl
  subst hws
  have hP0 : va_P D1 vwCl w0 H := fun j q hj => hP j q (by rw [List.getElem?_append_left (List.getElem?_eq_some_iff.mp hj).1]; exact hj)
  have hpre := pre_mc (av := .ref b :: As) (w0 := w0) (fr := fr) hP hD hK hN
  refine run_mc (va_runV (As := As) (rest := rest) ⟨hx, hb, hml, hown, hts⟩ (hM H.size) (cwV n hts hw rfl hR.1 hR.2.1 hd hR.2.2) ⟨hpre.1, by have hv := va_recv hK hP0 hc he; rw [hC] at hv; exact hv, hpre.2⟩ rfl hn hl.1 hst (lv_room hrest) dd ⟨by simpa using hcs.1, by simpa using hcs.2⟩) hP hD hS hA (fun H1 locs1 hP hD hS => k H1 locs1 ls hP hD hS hl)
theorem j_callVN {host : String} (X : JX K own cc nL ret rm l D d) (hM : MC l y bytes maxL rt rm' D d (.ref b :: As) w0 o) (hl1 : ∀ s, Nst s → va_Nw (.methodLinkNest own index y host) s) (hw : GoodIn lw_all (ws_ y bytes maxL rt)) (hi : Cond.initialized y.cls ∈ lw_all) (hin : Cond.instanceMethod y ∈ lw_all) (hse : Cond.selects C y y ∈ lw_all) (hd : y.cls ≠ "java/lang/invoke/MethodHandle" ∧ y.cls ≠ "java/lang/invoke/VarHandle" ∧ (parseMethodDescriptor y.desc).map (fun d => d.parameters.length) = some n) (hc : vwCl[ci]? = some qc) (hC : qc.1 = C) (he : w0[q0]? = some (b, .inr (ci, fs))) (hn : As.length = n) (hR : RmOk rm' maxL rm) (hcs : cs.1 ≤ rm.cells ∧ cs.2 ≤ rm.slots) (hst : st = As.reverse ++ .ref b :: rest) (hrest : (rest.map fun v => v.category).sum ≤ 8) (hws : ws = w0 ++ fr) (dd : decode cc pc = .ok (.invokevirtual index, 3))
    (k : Ju K cs (o.2 ++ fr) L (pc + 3) (o.1.toList ++ rest) r) : Ju K cs ws L pc st r := by
  obtain ⟨⟨p, l1, e, R, s, m, args, below, meth, c⟩, ⟨D1, d1, A⟩, Qf, nL1⟩ := K
  obtain ⟨hx, hb, hr, hml, hown, hts, hK, hN, hlk, hA, rfl, rfl, rfl, rfl, rfl⟩ := X
  intro H locs ls hP hD hS hl
  subst hws
  have hP0 : va_P D1 vwCl w0 H := fun j q hj => hP j q (by rw [List.getElem?_append_left (List.getElem?_eq_some_iff.mp hj).1]; exact hj)
  have hpre := pre_mc (av := .ref b :: As) (w0 := w0) (fr := fr) hP hD hK hN
  refine run_mc (va_runVN (C := C) (As := As) (rest := rest) ⟨hx, hb, hml, hown, hts⟩ (hM H.size) ⟨va_cnB n hts hw rfl hR.1 hR.2.1 (hl1 s hN) (hts _ hi) hd hR.2.2, hts _ hin, hts _ hse⟩ ⟨hpre.1, by have hv := va_recv hK hP0 hc he; rw [hC] at hv; exact hv, hpre.2⟩ rfl hn hl.1 hst (lv_room hrest) dd ⟨by simpa using hcs.1, by simpa using hcs.2⟩) hP hD hS hA (fun H1 locs1 hP hD hS => k H1 locs1 ls hP hD hS hl)
/-- a call through a class above: the method x named, y selected -/
theorem j_callU {owner : String} (X : JX K own cc nL ret rm l D d) (hM : MC l y bytes maxL rt rm' D d (.ref b :: As) w0 o) (hG : GoodIn lw_all (ws_ y bytes maxL rt)) (hcode : Cond.code y bytes maxL rt ∈ lw_all) (hini : Cond.initialized y.cls ∈ lw_all) (hlk1 : Cond.methodLink own index x ∈ lw_all) (hsm : Cond.sameMethod x.cls owner x.name x.desc ∈ lw_all) (hdl : ∀ s args, (∀ w ∈ lw_all, w.before args s = true) → Nst s → va_Decl s ⟨owner, x.name, x.desc⟩) (hse : Cond.selects C x y ∈ lw_all) (hin : Cond.instanceMethod y ∈ lw_all) (hd : owner ≠ "java/lang/invoke/MethodHandle" ∧ owner ≠ "java/lang/invoke/VarHandle" ∧ (parseMethodDescriptor x.desc).map (fun d => d.parameters.length) = some n) (hc : vwCl[ci]? = some qc) (hC : qc.1 = C) (he : w0[q0]? = some (b, .inr (ci, fs))) (hn : As.length = n) (hR : RmOk rm' maxL rm) (hcs : cs.1 ≤ rm.cells ∧ cs.2 ≤ rm.slots) (hst : st = As.reverse ++ .ref b :: rest) (hrest : (rest.map fun v => v.category).sum ≤ 8) (hws : ws = w0 ++ fr) (dd : decode cc pc = .ok (.invokevirtual index, 3))
    (k : Ju K cs (o.2 ++ fr) L (pc + 3) (o.1.toList ++ rest) r) : Ju K cs ws L pc st r := by
  obtain ⟨⟨p, l1, e, R, s, m, args, below, meth, c⟩, ⟨D1, d1, A⟩, Qf, nL1⟩ := K
  obtain ⟨hx, hb, hr, hml, hown, hts, hK, hN, hlk, hA, rfl, rfl, rfl, rfl, rfl⟩ := X
  intro H locs ls hP hD hS hl
  subst hws
  have hP0 : va_P D1 vwCl w0 H := fun j q hj => hP j q (by rw [List.getElem?_append_left (List.getElem?_eq_some_iff.mp hj).1]; exact hj)
  have hpre := pre_mc (av := .ref b :: As) (w0 := w0) (fr := fr) hP hD hK hN
  have hcw : Cond.code y bytes maxL rt ∈ ws_ y bytes maxL rt := List.mem_cons_self
  refine run_mc (va_runU (C := C) (owner := owner) (x := x) (As := As) (rest := rest) ⟨hx, hb, hml, hown, hts⟩ (hM H.size) ⟨⟨hR.1, hR.2.1, hR.2.2.1, hR.2.2.2, pay_in hts hG, hcw⟩, hts _ hcode, hts _ hini, ⟨hd.1, hd.2.1⟩, fun sig h => ?_, hts _ hlk1, hts _ hsm, hdl s args hts hN, hts _ hse, hts _ hin⟩ ⟨hpre.1, by have hv := va_recv hK hP0 hc he; rw [hC] at hv; exact hv, hpre.2⟩ rfl hn hl.1 hst (lv_room hrest) dd ⟨by simpa using hcs.1, by simpa using hcs.2⟩) hP hD hS hA (fun H1 locs1 hP hD hS => k H1 locs1 ls hP hD hS hl)
  have h2 := hd.2.2
  rw [h] at h2
  exact (Option.some.inj h2).symm
theorem j_callS (X : JX K own cc nL ret rm l D d) (hM : MC l y bytes maxL rt rm' D d As w0 o) (hw : GoodIn lw_all (va_wsS own index y (ws_ y bytes maxL rt))) (hd : y.cls ≠ "java/lang/invoke/MethodHandle" ∧ y.cls ≠ "java/lang/invoke/VarHandle" ∧ (parseMethodDescriptor y.desc).map (fun d => d.parameters.length) = some n) (hn : As.length = n) (hR : RmOk rm' maxL rm) (hcs : cs.1 ≤ rm.cells ∧ cs.2 ≤ rm.slots) (hst : st = As.reverse ++ rest) (hrest : (rest.map fun v => v.category).sum ≤ 8) (hws : ws = w0 ++ fr) (dd : decode cc pc = .ok (.invokestatic index, 3))
    (k : Ju K cs (o.2 ++ fr) L (pc + 3) (o.1.toList ++ rest) r) : Ju K cs ws L pc st r := by
  obtain ⟨⟨p, l1, e, R, s, m, args, below, meth, c⟩, ⟨D1, d1, A⟩, Qf, nL1⟩ := K
  obtain ⟨hx, hb, hr, hml, hown, hts, hK, hN, hlk, hA, rfl, rfl, rfl, rfl, rfl⟩ := X
  intro H locs ls hP hD hS hl
  subst hws
  have hpre := pre_mc (av := As) (w0 := w0) (fr := fr) hP hD hK hN
  refine run_mc (va_runS (As := As) (rest := rest) ⟨hx, hb, hml, hown, hts⟩ (hM H.size) (va_cwS n hts hw rfl hR.1 hR.2.1 hd hR.2.2) ⟨hpre.1, hpre.2⟩ rfl hn hl.1 hst (lv_room hrest) dd ⟨by simpa using hcs.1, by simpa using hcs.2⟩) hP hD hS hA (fun H1 locs1 hP hD hS => k H1 locs1 ls hP hD hS hl)
theorem j_min (X : JX K own cc nL ret rm l D d) (hlink : Cond.methodLink own index Lib.Math.min.name ∈ lw_all) (hstat : Cond.static Lib.Math.min.name ∈ lw_all) (hini : Cond.initialized "java/lang/Math" ∈ lw_all) (hcode : Cond.code Lib.Math.min.name Lib.Math.min.code 2 (some .int) ∈ lw_all) (hR : 1 ≤ rm.frames ∧ 21 ≤ rm.locals) (hcs : cs.1 ≤ rm.cells ∧ cs.2 ≤ rm.slots) (hrest : (st.map fun v => v.category).sum ≤ 8) {a b : Int32} (dd : decode cc pc = .ok (.invokestatic index, 3)) (k : Ju K cs ws L (pc + 3) (.int (if b < a then b else a) :: st) r) : Ju K cs ws L pc (.int b :: .int a :: st) r := by
  obtain ⟨⟨p, l1, e, R, s, m, args, below, meth, c⟩, ⟨D1, d1, A⟩, Qf, nL1⟩ := K
  obtain ⟨hx, hb, hr, hml, hown, hts, hK, hN, hlk, hA, rfl, rfl, rfl, rfl, rfl⟩ := X
  intro H locs ls hP hD hS hl
  exact va_mmin hx hb (hml.trans hl.1.symm) hown (hts _ hlink) (hts _ hstat) (hts _ hini) (hts _ hcode) hR.1 (Nat.le_trans (Nat.add_le_add_right hrest 13) hR.2) hcs.1 hcs.2 dd (k H locs ls hP hD hS hl)
end JCalls
