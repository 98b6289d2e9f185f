/-! Z-KIT: walks over an abstract heap: an address holds a content or nothing is known of it; own layer, printed by wip/D-78605w/gen/zkit.py -/
set_option maxRecDepth 100000
abbrev zM : Type := Nat → Option va_E
def zu (μ : zM) (a : Nat) (e : va_E) : zM := fun b => if b = a then some e else μ b
theorem zu_s (μ : zM) (a : Nat) (e : va_E) : zu μ a e a = some e := by simp [zu]
theorem zu_n {μ : zM} {a b : Nat} {e : va_E} (h : b ≠ a) : zu μ a e b = μ b := by simp [zu, h]
theorem zu_o {μ : zM} {a b : Nat} {e e' : va_E} (h : b ≠ a) (hb : μ b = some e') : zu μ a e b = some e' := (zu_n h).trans hb
/-- the two class tables and array classes, the least address of the run, the statics' addresses -/
abbrev zE : Type := va_G × (Nat → ClassId) × Nat × (Nat → Nat)
abbrev zD (E : zE) : va_G := E.1
abbrev zk (E : zE) : Nat → ClassId := E.2.1
abbrev zn (E : zE) : Nat := E.2.2.1
abbrev zs (E : zE) : Nat → Nat := E.2.2.2
def zA (E : zE) : Nat → Prop := fun q => zn E ≤ q ∨ q = zs E 0 ∨ q = zs E 1
def zI (z : Int) : Int32 := Int32.ofInt z
def zJ (z : Int) : Int64 := Int64.ofInt z
def zb (b : Bool) : Int := match b with | true => 1 | false => 0
theorem zI_add (a b : Int) : zI a + zI b = zI (a + b) := (Int32.ofInt_add a b).symm
theorem zI_sub (a b : Int) : zI a - zI b = zI (a - b) := (Int32.ofInt_sub a b).symm
theorem zI_mul (a b : Int) : zI a * zI b = zI (a * b) := (Int32.ofInt_mul a b).symm
theorem zI_neg (a : Int) : -zI a = zI (-a) := (Int32.ofInt_neg a).symm
theorem zJ_add (a b : Int) : zJ a + zJ b = zJ (a + b) := (Int64.ofInt_add a b).symm
theorem zJ_sub (a b : Int) : zJ a - zJ b = zJ (a - b) := (Int64.ofInt_sub a b).symm
theorem zJ_mul (a b : Int) : zJ a * zJ b = zJ (a * b) := (Int64.ofInt_mul a b).symm
theorem zJ_neg (a : Int) : -zJ a = zJ (-a) := (Int64.ofInt_neg a).symm
theorem zI_toInt {a : Int} (h : -2147483648 ≤ a ∧ a ≤ 2147483647) : (zI a).toInt = a := Int32.toInt_ofInt_of_le h.1 (by omega)
theorem zJ_toInt {a : Int} (h : -9223372036854775808 ≤ a ∧ a ≤ 9223372036854775807) : (zJ a).toInt = a := Int64.toInt_ofInt_of_le h.1 (by omega)
theorem zI_of (x : Int32) : ∃ a : Int, (-2147483648 ≤ a ∧ a ≤ 2147483647) ∧ x = zI a := ⟨x.toInt, ⟨Int32.le_toInt x, by have := Int32.toInt_lt x; omega⟩, (Int32.ofInt_toInt x).symm⟩
theorem zI_lt {a b : Int} (ha : -2147483648 ≤ a ∧ a ≤ 2147483647) (hb : -2147483648 ≤ b ∧ b ≤ 2147483647) : zI a < zI b ↔ a < b := by rw [Int32.lt_iff_toInt_lt, zI_toInt ha, zI_toInt hb]
theorem zI_le {a b : Int} (ha : -2147483648 ≤ a ∧ a ≤ 2147483647) (hb : -2147483648 ≤ b ∧ b ≤ 2147483647) : zI a ≤ zI b ↔ a ≤ b := by rw [Int32.le_iff_toInt_le, zI_toInt ha, zI_toInt hb]
theorem zI_eq {a b : Int} (ha : -2147483648 ≤ a ∧ a ≤ 2147483647) (hb : -2147483648 ≤ b ∧ b ≤ 2147483647) : zI a = zI b ↔ a = b := by
  refine ⟨fun h => ?_, fun h => by rw [h]⟩
  rw [← zI_toInt ha, ← zI_toInt hb, h]
theorem zJ_lt {a b : Int} (ha : -9223372036854775808 ≤ a ∧ a ≤ 9223372036854775807) (hb : -9223372036854775808 ≤ b ∧ b ≤ 9223372036854775807) : zJ a < zJ b ↔ a < b := by rw [Int64.lt_iff_toInt_lt, zJ_toInt ha, zJ_toInt hb]
theorem zJ_le {a b : Int} (ha : -9223372036854775808 ≤ a ∧ a ≤ 9223372036854775807) (hb : -9223372036854775808 ≤ b ∧ b ≤ 9223372036854775807) : zJ a ≤ zJ b ↔ a ≤ b := by rw [Int64.le_iff_toInt_le, zJ_toInt ha, zJ_toInt hb]
theorem zJ_eq {a b : Int} (ha : -9223372036854775808 ≤ a ∧ a ≤ 9223372036854775807) (hb : -9223372036854775808 ≤ b ∧ b ≤ 9223372036854775807) : zJ a = zJ b ↔ a = b := by
  refine ⟨fun h => ?_, fun h => by rw [h]⟩
  rw [← zJ_toInt ha, ← zJ_toInt hb, h]
theorem zI_J {a : Int} (h : -2147483648 ≤ a ∧ a ≤ 2147483647) : (zI a).toInt64 = zJ a := by
  apply Int64.toInt_inj.mp
  rw [Int32.toInt_toInt64, zI_toInt h, zJ_toInt (by omega)]
theorem zb_r (b : Bool) : -2147483648 ≤ zb b ∧ zb b ≤ 2147483647 := by cases b <;> decide
theorem zb_01 (b : Bool) : 0 ≤ zb b ∧ zb b ≤ 1 := by cases b <;> decide
/-- contents -/
def zai (E : zE) (n : Nat) (f : Int → Int) : va_E := .inl (zk E 0, n, .inl (fun j => zI (f j)))
def zaj (E : zE) (n : Nat) (f : Int → Int) : va_E := .inl (zk E 1, n, .inr (.inl (fun j => zJ (f j))))
def zab (E : zE) (n : Nat) (f : Int → Int) : va_E := .inl (zk E 2, n, .inl (fun j => zI (f j)))
def zaq (E : zE) (t : Nat) (n : Nat) (f : Int → Option Nat) : va_E := .inl (zk E t, n, .inr (.inr (.inr (.inr (fun j => f j)))))
def zob (ci : Nat) (fs : List Value) : va_E := .inr (ci, fs)
def zf {α : Type} (f : Int → α) (k : Int) (v : α) : Int → α := fun j => if j = k then v else f j
theorem zf_s {α : Type} (f : Int → α) (k : Int) (v : α) : zf f k v k = v := by simp [zf]
theorem zf_n {α : Type} {f : Int → α} {k j : Int} {v : α} (h : j ≠ k) : zf f k v j = f j := by simp [zf, h]
abbrev zcl : List vw_C := [(RX0, TX0, 8), (RX1, TX1, 39), (RX2, TX2, 7), (RX3, TX3, 3), (RX4, TX4, 7), (RX5, TX5, 2), (RX6, TX6, 4), (RX9, TX9, 10), (RX10, TX10, 2), (RX11, TX11, 9), (RX12, TX12, 9), (RX13, TX13, 9), (RX14, TX14, 5), (RX15, TX15, 2), (RX16, TX16, 2), (RX17, TX17, 11), (RX18, TX18, 8), (RJ2, TJ2, 3), (RJ4, TJ4, 4), (RJ5, TJ5, 3)]
abbrev ztys (E : zE) : List (ClassId × FieldType) := [(zk E 0, .int), (zk E 1, .long), (zk E 2, .byte), (zk E 3, .object "java/lang/Object"), (zk E 4, .object "RatioGraph$Line"), (zk E 5, .array .long)]
/-- the words of the tables that do not ride in lw_all -/
def zkd : Cond → Bool
  | .fieldLinkNest _ _ _ _ _ _ => true
  | .methodLinkNest _ _ _ _ => true
  | .castable _ _ => true
  | .declares _ => true
  | .privateMethod _ => true
  | .arrayOver t => decide (t = .array .long)
  | _ => false
theorem zNw_P {x : MethodName} {s U : State} (hW : s.WarmedH U.vm) (hZ : va_Nw (.privateMethod x) s) : va_Nw (.privateMethod x) U := va_tabs rfl (rfl : (s.setVm U.vm).vm = U.vm) (by rw [Cond.privateMethod_setVm hW.alike]; exact hZ)
theorem zNw_AL {u U : State} (hvm : u.vm.Alike U.vm) (h : va_Nw (.arrayOver (.array .long)) u) : va_Nw (.arrayOver (.array .long)) U := by
  have hs : ∃ comp c k, u.vm.findClass (FieldType.array .long).toString = some comp ∧ (u.vm.classes.findIdx? fun x => match x.kind with | .array component _ => component == comp | _ => false) = some c ∧ u.vm.classes[c]? = some k ∧ k.kind = .array comp (.array .long) ∧ u.vm.findClass ("[" ++ (FieldType.array .long).toString) = some c := by
    unfold va_Nw Cond.before at h
    simp only [Cond.holds, Cond.value, beq_iff_eq] at h
    cases hc : u.vm.findClass (FieldType.array .long).toString with
    | none => simp [hc] at h
    | some comp =>
      simp only [hc, Option.bind_some, Option.bind_eq_some_iff, Option.map_eq_some_iff] at h
      obtain ⟨c, hi, k, hk, hb⟩ := h
      obtain ⟨hlt, hp, -⟩ := Array.findIdx?_eq_some_iff_getElem.mp hi
      have hkk : u.vm.classes[c] = k := (Array.getElem?_eq_some_iff.mp hk).2
      rw [hkk] at hp
      cases hkind : k.kind with
      | array component ty =>
        rw [hkind] at hb hp
        simp at hb hp
        exact ⟨comp, c, k, rfl, hi, hk, by rw [hkind, hp, hb.1], hb.2⟩
      | _ => rw [hkind] at hb; simp at hb
  obtain ⟨comp, c, k, h1, h2, h3, h4, h5⟩ := hs
  obtain ⟨k', hk', he⟩ := hvm.2.2 _ _ h3
  have hi : (U.vm.classes.findIdx? fun (x : Class) => match x.kind with | .array component _ => component == comp | _ => false) = some c := by
    have e1 := va_idx_bare U.vm comp
    have e2 := va_idx_bare u.vm comp
    have eb : U.vm.bare = u.vm.bare := by first | exact hvm.bare_eq | exact hvm.bare_eq.symm
    rw [eb] at e1
    exact e1.symm.trans (e2.trans h2)
  have hkind : k'.kind = .array comp (.array .long) := by rw [he]; exact h4
  have f1 : U.vm.findClass (FieldType.array .long).toString = some comp := by rw [hvm.findClass]; exact h1
  have f2 : U.vm.findClass ("[" ++ (FieldType.array .long).toString) = some c := by rw [hvm.findClass]; exact h5
  unfold va_Nw Cond.before Cond.holds
  simp only [Cond.value]
  rw [f1, Option.bind_some]
  refine (congrArg (fun o : Option Nat => (o.bind (fun c => (U.vm.classes[c]?).map fun (k : Class) => match k.kind with | .array _ ty => decide (ty = FieldType.array .long) && decide (U.vm.findClass ("[" ++ (FieldType.array .long).toString) = some c) | _ => false) == some true)) hi).trans ?_
  simp [hk', hkind, f2]
theorem zNw_AA {t : FieldType} {u U : State} (hvm : u.vm.Alike U.vm) (hk : zkd (.arrayOver t) = true) (hZ : va_Nw (.arrayOver t) u) : va_Nw (.arrayOver t) U := by
  have e : t = .array .long := of_decide_eq_true hk
  subst e
  exact zNw_AL hvm hZ
theorem zNw_A {t : FieldType} {s U : State} (hW : s.WarmedH U.vm) (hk : zkd (.arrayOver t) = true) (hZ : va_Nw (.arrayOver t) s) : va_Nw (.arrayOver t) U := by
  have e : t = .array .long := of_decide_eq_true hk
  subst e
  exact zNw_AL hW.alike hZ
def zFx : MethodName := ⟨"java/util/Collection", "toArray", "()[Ljava/lang/Object;"⟩
def zFy : MethodName := ⟨"java/util/ArrayList", "toArray", "()[Ljava/lang/Object;"⟩
/-- what getClass through an interface asks -/
def zGc (U : State) : Prop := (Cond.interfaceMethod "java/util/Collection" "java/lang/Object" "getClass" "()Ljava/lang/Class;").before #[] U = true ∧ (Cond.publicMethod ⟨"java/lang/Object", "getClass", "()Ljava/lang/Class;"⟩).before #[] U = true ∧ (Cond.unhidden "java/util/ArrayList" "getClass" "()Ljava/lang/Class;").before #[] U = true
theorem zGc.moved {u U : State} (hvm : u.vm.Alike U.vm) (hd : va_Dc u) (h : zGc u) : zGc U := by
  obtain ⟨h2, h3, h4⟩ := h
  have e2 : (Cond.interfaceMethod "java/util/Collection" "java/lang/Object" "getClass" "()Ljava/lang/Class;").before #[] (u.setVm U.vm) = (Cond.interfaceMethod "java/util/Collection" "java/lang/Object" "getClass" "()Ljava/lang/Class;").before #[] u := by
    simp only [Cond.before, Cond.holds, Cond.value, State.vm_setVm, hvm.findClass, State.methodFound?_setVm hvm, State.methodNamed?_setVm hvm, arm_isInterface_setVm hvm]
  have tr : ∀ {c : Cond}, c.onTables = true → c.before #[] (u.setVm U.vm) = true → c.before #[] U = true := by
    intro c hc h
    have e := Cond.onTables_vm (A := #[]) (A' := #[]) (U := u) (U' := U) U.vm c hc
    have hU : U.setVm U.vm = U := rfl
    rw [hU] at e
    rw [← e]
    exact h
  exact ⟨tr rfl (by rw [e2]; exact h2), tr rfl (by rw [Cond.publicMethod_setVm hvm]; exact h3), tr rfl (by rw [Cond.unhidden_setVm hvm]; exact h4)⟩
def zT (E : zE) (U : State) : Prop := (∀ w ∈ lw_tbl, zkd w = true → va_Nw w U) ∧ va_AO "java/lang/Object" U ∧ va_AO "RatioGraph$Line" U ∧ va_Mi "[Ljava/lang/Object;" (zs E 2) U ∧ va_Mi "java/util/ArrayList" (zs E 3) U ∧ va_Dc U ∧ va_Fw "java/util/ArrayList" zFx zFy U ∧ zGc U
theorem zT.warm {E : zE} {s U : State} (hW : s.WarmedH U.vm) (h : zT E s) : zT E U := by
  refine ⟨fun w hw hk => ?_, va_AO.moved hW.alike h.2.1, va_AO.moved hW.alike h.2.2.1, va_Mi.moved hW.alike h.2.2.2.1, va_Mi.moved hW.alike h.2.2.2.2.1, va_Dc.moved hW.alike h.2.2.2.2.2.1, va_Fw.moved (by decide) hW.alike h.2.2.2.2.2.2.1, zGc.moved hW.alike h.2.2.2.2.2.1 h.2.2.2.2.2.2.2⟩
  have h1 := h.1 w hw hk
  cases w <;> first | exact va_Nw.warmF hW h1 | exact va_Nw.warmM hW h1 | exact va_Nw.warmC hW h1 | exact va_Nw.warmD hW h1 | exact zNw_P hW h1 | exact zNw_A hW hk h1 | exact absurd hk (by simp [zkd])
/-- statics that nobody writes: ArrayList's two empty arrays -/
def zS (E : zE) (U : State) (H : Heap) : Prop := va_Z "java/util/ArrayList" "EMPTY_ELEMENTDATA" "[Ljava/lang/Object;" (.ref (zs E 0)) (zA E) U H ∧ va_Z "java/util/ArrayList" "DEFAULTCAPACITY_EMPTY_ELEMENTDATA" "[Ljava/lang/Object;" (.ref (zs E 1)) (zA E) U H ∧ va_Z "java/lang/Throwable" "UNASSIGNED_STACK" "[Ljava/lang/StackTraceElement;" (.ref (zs E 4)) (zA E) U H ∧ va_Z "java/lang/Throwable" "SUPPRESSED_SENTINEL" "Ljava/util/List;" (.ref (zs E 5)) (zA E) U H
def zh (E : zE) (μ : zM) (H : Heap) : Prop := ∀ (a : Nat) (e : va_E), μ a = some e → va_at (zD E) zcl (a, e) H ∧ zA E a
theorem zh.P {E : zE} {μ : zM} {H : Heap} (h : zh E μ H) {a : Nat} {e : va_E} (ha : μ a = some e) : va_P (zD E) zcl [(a, e)] H := by
  intro k q hk
  cases k with
  | zero => cases hk; exact (h a e ha).1
  | succ k => simp at hk
theorem zh.lt {E : zE} {μ : zM} {H : Heap} (h : zh E μ H) {a : Nat} {e : va_E} (ha : μ a = some e) : a < H.size := (h a e ha).1.lt
/-- a cell is written -/
theorem zh.put {E : zE} {μ : zM} {H H1 : Heap} (h : zh E μ H) {a : Nat} {e0 e : va_E} (ha : μ a = some e0) (he : va_at (zD E) zcl (a, e) H1) (oq : ∀ q : Nat, q ≠ a → H1[q]? = H[q]?) : zh E (zu μ a e) H1 := by
  intro b x hb
  by_cases hq : b = a
  · subst hq
    rw [zu_s] at hb
    cases hb
    exact ⟨he, (h b e0 ha).2⟩
  · rw [zu_n hq] at hb
    exact ⟨(h b x hb).1.kept (oq b hq), (h b x hb).2⟩
/-- a cell is made -/
theorem zh.new {E : zE} {μ : zM} {H H1 : Heap} (h : zh E μ H) {e : va_E} (he : va_at (zD E) zcl (H.size, e) H1) (oq : ∀ q : Nat, q < H.size → H1[q]? = H[q]?) (hn : zn E ≤ H.size) : zh E (zu μ H.size e) H1 ∧ μ H.size = none := by
  have hno : μ H.size = none := by
    cases hx : μ H.size with
    | none => rfl
    | some x => exact absurd (h.lt hx) (Nat.lt_irrefl _)
  refine ⟨?_, hno⟩
  intro b x hb
  by_cases hq : b = H.size
  · subst hq
    rw [zu_s] at hb
    cases hb
    exact ⟨he, Or.inl hn⟩
  · rw [zu_n hq] at hb
    exact ⟨(h b x hb).1.kept (oq b (h.lt hb)), (h b x hb).2⟩
/-- less is known -/
theorem zh.sub {E : zE} {μ μ' : zM} {H : Heap} (h : zh E μ H) (hs : ∀ a e, μ' a = some e → μ a = some e) : zh E μ' H := fun a e ha => h a e (hs a e ha)
/-- what a method's start and end say of the world -/
def zPre (E : zE) (μ : zM) (U : State) : Prop := va_K (zD E) zcl (ztys E) U ∧ zT E U ∧ zS E U U.heap ∧ zn E ≤ U.heap.size ∧ zh E μ U.heap
theorem zPre.sub {E : zE} {μ μ' : zM} {U : State} (h : zPre E μ U) (hs : ∀ a e, μ' a = some e → μ a = some e) : zPre E μ' U := ⟨h.1, h.2.1, h.2.2.1, h.2.2.2.1, h.2.2.2.2.sub hs⟩
/-- a walk's fixed things -/
abbrev zX : Type := Program × Launch × Env × State × MethodId × Array Value × List Frame × Method × Code
abbrev zXp (X : zX) : Program := X.1
abbrev zXl (X : zX) : Launch := X.2.1
abbrev zXe (X : zX) : Env := X.2.2.1
abbrev zXs (X : zX) : State := X.2.2.2.1
abbrev zXm (X : zX) : MethodId := X.2.2.2.2.1
abbrev zXa (X : zX) : Array Value := X.2.2.2.2.2.1
abbrev zXb (X : zX) : List Frame := X.2.2.2.2.2.2.1
abbrev zXh (X : zX) : Method := X.2.2.2.2.2.2.2.1
abbrev zXc (X : zX) : Code := X.2.2.2.2.2.2.2.2
/-- the room of a method of rank k -/
def zR (k mc ms : Nat) : Room := { frames := 20 * k, cells := mc, slots := ms, locals := 200 * k }
def zL (ls : Array Slot) (lv : List (Option Value)) : Prop := ls.size = lv.length ∧ lv_wf ls ∧ ∀ (i : Nat) (v : Value), lv[i]? = some (some v) → ls[i]? = some (.val v)
theorem zL.at {ls : Array Slot} {lv : List (Option Value)} (h : zL ls lv) {i : Nat} {v : Value} (hv : lv[i]? = some (some v)) : ls[i]? = some (.val v) := h.2.2 i v hv
theorem zL.has {ls : Array Slot} {lv : List (Option Value)} (h : zL ls lv) (l : List (Nat × Value)) (hl : ∀ q ∈ l, lv[q.1]? = some (some q.2)) : lv_has ls lv.length l := ⟨h.1, h.2.1, fun q hq => h.2.2 q.1 q.2 (hl q hq)⟩
def zps : Nat → List (Option Value) → List (Nat × Value)
  | _, [] => []
  | i, none :: l => zps (i + 1) l
  | i, some v :: l => (i, v) :: zps (i + 1) l
theorem zps_mem : ∀ (l : List (Option Value)) (i : Nat) (q : Nat × Value), q ∈ zps i l ↔ ∃ j : Nat, q.1 = i + j ∧ l[j]? = some (some q.2)
  | [], i, q => by simp [zps]
  | none :: l, i, q => by
    rw [zps, zps_mem l (i + 1) q]
    constructor
    · rintro ⟨j, h1, h2⟩
      exact ⟨j + 1, by omega, by simpa using h2⟩
    · rintro ⟨j, h1, h2⟩
      cases j with
      | zero => simp at h2
      | succ j => exact ⟨j, by omega, by simpa using h2⟩
  | some v :: l, i, q => by
    rw [zps, List.mem_cons, zps_mem l (i + 1) q]
    constructor
    · rintro (h | ⟨j, h1, h2⟩)
      · exact ⟨0, by rw [h]; rfl, by rw [h]; rfl⟩
      · exact ⟨j + 1, by omega, by simpa using h2⟩
    · rintro ⟨j, h1, h2⟩
      cases j with
      | zero =>
        left
        have : v = q.2 := by simpa using h2
        rw [this, ← show q.1 = i from by omega]
      | succ j => exact Or.inr ⟨j, by omega, by simpa using h2⟩
theorem zL.all {ls : Array Slot} {lv : List (Option Value)} (h : zL ls lv) : lv_has ls lv.length (zps 0 lv) := h.has _ (fun q hq => by
  obtain ⟨j, h1, h2⟩ := (zps_mem lv 0 q).mp hq
  rw [h1, Nat.zero_add]; exact h2)
/-- behind a store of one word at i: the place before i must not be a long -/
theorem zL.of1 {ls' : Array Slot} {lv : List (Option Value)} {l : List (Nat × Value)} (hl : ∀ (j : Nat) (w : Value), lv[j]? = some (some w) → (j, w) ∈ l) {i : Nat} {v : Value} (hi : i < lv.length) (hp : ∀ w, lv[i - 1]? = some (some w) → i ≠ 0 → w.category = 1) (h : lv_has ls' lv.length ((i, v) :: l.filter (fun q => !(q.1 == i) && !(q.1 + 1 == i && q.2.category == 2)))) : zL ls' (lv.set i (some v)) := by
  obtain ⟨h2, h3, h4⟩ := h
  refine ⟨by rw [h2, List.length_set], h3, fun j w hj => ?_⟩
  by_cases hij : j = i
  · subst hij
    rw [List.getElem?_set_self hi] at hj
    cases hj
    exact h4 (j, v) List.mem_cons_self
  · rw [List.getElem?_set_ne (Ne.symm hij)] at hj
    refine h4 (j, w) (List.mem_cons_of_mem _ (List.mem_filter.mpr ⟨hl j w hj, ?_⟩))
    by_cases h5 : j + 1 = i
    · have h6 := hp w (by rw [show i - 1 = j by omega]; exact hj) (by omega)
      simp [h6, hij]
    · simp [h5, hij]
theorem zL.of2 {ls' : Array Slot} {lv : List (Option Value)} {l : List (Nat × Value)} (hl : ∀ (j : Nat) (w : Value), lv[j]? = some (some w) → (j, w) ∈ l) {i : Nat} {v : Value} (hi : i + 1 < lv.length) (hp : ∀ w, lv[i - 1]? = some (some w) → i ≠ 0 → w.category = 1) (hq : lv[i + 1]? = some none) (h : lv_has ls' lv.length ((i, v) :: l.filter (fun q => !(q.1 == i) && (!(q.1 == i + 1) && !(q.1 + 1 == i && q.2.category == 2))))) : zL ls' (lv.set i (some v)) := by
  obtain ⟨h2, h3, h4⟩ := h
  refine ⟨by rw [h2, List.length_set], h3, fun j w hj => ?_⟩
  by_cases hij : j = i
  · subst hij
    rw [List.getElem?_set_self (by omega)] at hj
    cases hj
    exact h4 (j, v) List.mem_cons_self
  · rw [List.getElem?_set_ne (Ne.symm hij)] at hj
    have h7 : j ≠ i + 1 := by
      intro e
      subst e
      rw [hq] at hj
      cases hj
    refine h4 (j, w) (List.mem_cons_of_mem _ (List.mem_filter.mpr ⟨hl j w hj, ?_⟩))
    by_cases h5 : j + 1 = i
    · have h6 := hp w (by rw [show i - 1 = j by omega]; exact hj) (by omega)
      simp [h6, hij, h7]
    · simp [h5, hij, h7]
theorem zps_in (lv : List (Option Value)) (j : Nat) (w : Value) (h : lv[j]? = some (some w)) : (j, w) ∈ zps 0 lv := (zps_mem lv 0 (j, w)).mpr ⟨j, by omega, h⟩
/-- the place before i is no long: decided where it is written out -/
def zpre (lv : List (Option Value)) (i : Nat) : Prop := ∀ w, lv[i - 1]? = some (some w) → i ≠ 0 → w.category = 1
theorem zpre_0 {lv : List (Option Value)} : zpre lv 0 := fun _ _ h => absurd rfl h
theorem zpre_n {lv : List (Option Value)} {i : Nat} (h : lv[i - 1]? = some none) : zpre lv i := fun w hw _ => by rw [h] at hw; cases hw
theorem zpre_1 {lv : List (Option Value)} {i : Nat} {v : Value} (h : lv[i - 1]? = some (some v)) (hc : v.category = 1) : zpre lv i := fun w hw _ => by rw [h] at hw; cases hw; exact hc
/-- fewer locals are known: a mask -/
def zmask : List Bool → List (Option Value) → List (Option Value)
  | true :: bs, v :: vs => v :: zmask bs vs
  | false :: bs, _ :: vs => none :: zmask bs vs
  | [], vs => vs.map (fun _ => none)
  | _ :: _, [] => []
theorem zmask_len : ∀ (bs : List Bool) (lv : List (Option Value)), (zmask bs lv).length = lv.length
  | true :: bs, v :: vs => by simp [zmask, zmask_len bs vs]
  | false :: bs, v :: vs => by simp [zmask, zmask_len bs vs]
  | [], vs => by cases vs <;> simp [zmask]
  | b :: _, [] => by cases b <;> simp [zmask]
theorem zmask_at : ∀ (bs : List Bool) (lv : List (Option Value)) (i : Nat) (v : Value), (zmask bs lv)[i]? = some (some v) → lv[i]? = some (some v)
  | b :: bs, w :: vs, i, v, h => by
    cases i with
    | zero =>
      cases b with
      | true => simpa [zmask] using h
      | false => simp [zmask] at h
    | succ i =>
      cases b with
      | true => simpa using zmask_at bs vs i v (by simpa [zmask] using h)
      | false => simpa using zmask_at bs vs i v (by simpa [zmask] using h)
  | [], vs, i, v, h => by
    simp [zmask] at h
  | b :: _, [], i, v, h => by cases b <;> simp [zmask] at h
theorem zL.mask {ls : Array Slot} {lv : List (Option Value)} (h : zL ls lv) (bs : List Bool) : zL ls (zmask bs lv) := ⟨by rw [zmask_len]; exact h.1, h.2.1, fun i v hv => h.2.2 i v (zmask_at bs lv i v hv)⟩
def zW (X : zX) (R : Room) (E : zE) (μ : zM) (ce sl : Nat) (Q : State → Prop) (pc : Nat) (lv : List (Option Value)) (st : List Value) : Prop :=
  ∀ (H : Heap) (locs : List Loc) (ls : Array Slot), zh E μ H → va_S (zA E) (zXs X).heap H locs → zL ls lv → W (zXp X) (zXl X) (zXe X) R (zXs X) (zXm X) (zXa X) (zXb X) (zXh X) (zXc X) H locs ce sl Q (F0 (zXm X) pc ls st)
/-- what a walk knows from its entry on -/
def zOK (X : zX) (E : zE) (cc : ByteArray) (own : String) (ret : Option FieldType) (nL : Nat) : Prop :=
  (zXp X).tables.exec = Jvm.exec ∧ (zXc X).code = cc ∧ (zXs X).vm.findClass own = some (zXm X).cls ∧ (∀ w ∈ lw_all, w.before (zXa X) (zXs X) = true) ∧ va_K (zD E) zcl (ztys E) (zXs X) ∧ zT E (zXs X) ∧ zS E (zXs X) (zXs X).heap ∧ (zXh X).locks = false ∧ zn E ≤ (zXs X).heap.size ∧ (zXh X).sig.returnType = ret ∧ (zXc X).maxLocals = nL
section ZROWS
variable {X : zX} {R : Room} {E : zE} {μ : zM} {ce sl : Nat} {Q : State → Prop} {pc : Nat} {lv : List (Option Value)} {st : List Value} {cc : ByteArray} {own : String} {ret : Option FieldType} {nL : Nat}
theorem zOK.x (h : zOK X E cc own ret nL) : (zXp X).tables.exec = Jvm.exec := h.1
theorem zOK.b (h : zOK X E cc own ret nL) : (zXc X).code = cc := h.2.1
theorem zOK.o (h : zOK X E cc own ret nL) : (zXs X).vm.findClass own = some (zXm X).cls := h.2.2.1
theorem zOK.t (h : zOK X E cc own ret nL) {w : Cond} (hw : w ∈ lw_all) : w.before (zXa X) (zXs X) = true := h.2.2.2.1 w hw
theorem zOK.ts (h : zOK X E cc own ret nL) : ∀ w ∈ lw_all, w.before (zXa X) (zXs X) = true := h.2.2.2.1
theorem zOK.k (h : zOK X E cc own ret nL) : va_K (zD E) zcl (ztys E) (zXs X) := h.2.2.2.2.1
theorem zOK.T (h : zOK X E cc own ret nL)   : zT E (zXs X) := h.2.2.2.2.2.1
theorem zOK.S (h : zOK X E cc own ret nL) : zS E (zXs X) (zXs X).heap := h.2.2.2.2.2.2.1
theorem zOK.lk (h : zOK X E cc own ret nL) : (zXh X).locks = false := h.2.2.2.2.2.2.2.1
theorem zOK.n (h : zOK X E cc own ret nL) : zn E ≤ (zXs X).heap.size := h.2.2.2.2.2.2.2.2.1
theorem zOK.r (h : zOK X E cc own ret nL) : (zXh X).sig.returnType = ret := h.2.2.2.2.2.2.2.2.2.1
theorem zOK.ml (h : zOK X E cc own ret nL) : (zXc X).maxLocals = nL := h.2.2.2.2.2.2.2.2.2.2
theorem zOK.nw (h : zOK X E cc own ret nL) {w : Cond} (hw : w ∈ lw_tbl) (hk : zkd w = true) : va_Nw w (zXs X) := h.T.1 w hw hk
/-- the world at a heap of the walk -/
theorem zOK.pre (h : zOK X E cc own ret nL) {H : Heap} {locs : List Loc} (hS : va_S (zA E) (zXs X).heap H locs) (hh : zh E μ H) {U : State} (hU : U.heap = H) (hW : (zXs X).WarmedH U.vm) : zPre E μ U := by
  have keep : ∀ (C n d : String) (v : Value), va_Z C n d v (zA E) (zXs X) (zXs X).heap → va_Z C n d v (zA E) U U.heap := by
    intro C n d v hz
    refine va_Z.moved hW.alike ?_
    rw [hU]
    exact hz.kept (fun a h1 h2 => hS.2.1 a h1 h2)
  exact ⟨va_K.moved hW.alike h.k, h.T.warm hW, ⟨keep _ _ _ _ h.S.1, keep _ _ _ _ h.S.2.1, keep _ _ _ _ h.S.2.2.1, keep _ _ _ _ h.S.2.2.2⟩, by rw [hU]; exact Nat.le_trans h.n hS.1, by rw [hU]; exact hh⟩
theorem zW.widen {k n : Nat} (h1 : ce ≤ k) (h2 : sl ≤ n) (kk : zW X R E μ k n Q pc lv st) : zW X R E μ ce sl Q pc lv st := fun H locs ls a1 a2 a3 => W.widen h1 h2 (kk H locs ls a1 a2 a3)
theorem zW.sub {μ' : zM} (hs : ∀ a e, μ' a = some e → μ a = some e) (kk : zW X R E μ' ce sl Q pc lv st) : zW X R E μ ce sl Q pc lv st := fun H locs ls a1 a2 a3 => kk H locs ls (a1.sub hs) a2 a3
theorem zW.mask (bs : List Bool) {lv' : List (Option Value)} (hl : zmask bs lv = lv') (kk : zW X R E μ ce sl Q pc lv' st) : zW X R E μ ce sl Q pc lv st := fun H locs ls a1 a2 a3 => kk H locs ls a1 a2 (hl ▸ a3.mask bs)
theorem zW.mu {μ' : zM} (hs : μ = μ') (kk : zW X R E μ' ce sl Q pc lv st) : zW X R E μ ce sl Q pc lv st := hs ▸ kk
theorem zW.stk {st' : List Value} (hs : st = st') (kk : zW X R E μ ce sl Q pc lv st') : zW X R E μ ce sl Q pc lv st := hs ▸ kk

theorem z_iconst (hX : zOK X E cc own ret nL) {n : Int} (d : decode cc pc = .ok (.iconst n, 1)) (k : zW X R E μ ce sl Q (pc + 1) lv (.int (zI n) :: st)) : zW X R E μ ce sl Q pc lv (st) := fun H locs ls a1 a2 a3 => lv_iconst hX.x hX.b d rfl (k H locs ls a1 a2 a3)
theorem z_bipush (hX : zOK X E cc own ret nL) {n : Int} (hn : (Int8.ofInt n).toInt32 = zI n) (d : decode cc pc = .ok (.bipush n, 2)) (k : zW X R E μ ce sl Q (pc + 2) lv (.int (zI n) :: st)) : zW X R E μ ce sl Q pc lv st := fun H locs ls a1 a2 a3 => lv_bipush hX.x hX.b d hn (k H locs ls a1 a2 a3)
theorem z_sipush (hX : zOK X E cc own ret nL) {n : Int} (hn : (Int16.ofInt n).toInt32 = zI n) (d : decode cc pc = .ok (.sipush n, 3)) (k : zW X R E μ ce sl Q (pc + 3) lv (.int (zI n) :: st)) : zW X R E μ ce sl Q pc lv st := fun H locs ls a1 a2 a3 => lv_sipush hX.x hX.b d hn (k H locs ls a1 a2 a3)
theorem z_lconst (hX : zOK X E cc own ret nL) {n : Fin 2} {z : Int} (hn : Int64.ofNat (n : Nat) = zJ z) (d : decode cc pc = .ok (.lconst n, 1)) (k : zW X R E μ ce sl Q (pc + 1) lv (.long (zJ z) :: st)) : zW X R E μ ce sl Q pc lv st := fun H locs ls a1 a2 a3 => lv_lconst hX.x hX.b d hn (k H locs ls a1 a2 a3)
theorem z_ldc (hX : zOK X E cc own ret nL) {i : Nat} {v : Int32} {z : Int} (hw : Cond.constant own i v ∈ lw_all) (hn : v = zI z) (d : decode cc pc = .ok (.ldc i, 2)) (k : zW X R E μ ce sl Q (pc + 2) lv (.int (zI z) :: st)) : zW X R E μ ce sl Q pc lv st := fun H locs ls a1 a2 a3 => by
  subst hn
  exact lv_ldc hX.x hX.b hX.o (hX.t hw) d (k H locs ls a1 a2 a3)
theorem z_ldc_w (hX : zOK X E cc own ret nL) {i : Nat} {v : Int32} {z : Int} (hw : Cond.constant own i v ∈ lw_all) (hn : v = zI z) (d : decode cc pc = .ok (.ldc_w i, 3)) (k : zW X R E μ ce sl Q (pc + 3) lv (.int (zI z) :: st)) : zW X R E μ ce sl Q pc lv st := fun H locs ls a1 a2 a3 => by
  subst hn
  exact lv_ldcw hX.x hX.b hX.o (hX.t hw) d (k H locs ls a1 a2 a3)
theorem z_ldc2_w (hX : zOK X E cc own ret nL) {i : Nat} {v : Int64} {z : Int} (hw : Cond.constantLong own i v ∈ lw_all) (hn : v = zJ z) (d : decode cc pc = .ok (.ldc2_w i, 3)) (k : zW X R E μ ce sl Q (pc + 3) lv (.long (zJ z) :: st)) : zW X R E μ ce sl Q pc lv st := fun H locs ls a1 a2 a3 => by
  subst hn
  exact lv_ldc2 hX.x hX.b hX.o (hX.t hw) d (k H locs ls a1 a2 a3)
theorem z_null (hX : zOK X E cc own ret nL) (d : decode cc pc = .ok (.aconst_null, 1)) (k : zW X R E μ ce sl Q (pc + 1) lv (.null :: st)) : zW X R E μ ce sl Q pc lv (st) := fun H locs ls a1 a2 a3 => lv_null hX.x hX.b d (k H locs ls a1 a2 a3)
theorem z_iload_n (hX : zOK X E cc own ret nL) {k : Fin 4} {x : Int32} (hl : lv[(k : Nat)]? = some (some (.int x))) (d : decode cc pc = .ok (.iload_n k, 1)) (kk : zW X R E μ ce sl Q (pc + 1) lv (.int x :: st)) : zW X R E μ ce sl Q pc lv st := fun H locs ls a1 a2 a3 => lv_iload_n hX.x hX.b d rfl (a3.at hl) (kk H locs ls a1 a2 a3)
theorem z_iload (hX : zOK X E cc own ret nL) {i : Nat} {x : Int32} (hl : lv[i]? = some (some (.int x))) (d : decode cc pc = .ok (.iload i, 2)) (kk : zW X R E μ ce sl Q (pc + 2) lv (.int x :: st)) : zW X R E μ ce sl Q pc lv st := fun H locs ls a1 a2 a3 => lv_iload hX.x hX.b d (a3.at hl) (kk H locs ls a1 a2 a3)
theorem z_lload_n (hX : zOK X E cc own ret nL) {k : Fin 4} {x : Int64} (hl : lv[(k : Nat)]? = some (some (.long x))) (d : decode cc pc = .ok (.lload_n k, 1)) (kk : zW X R E μ ce sl Q (pc + 1) lv (.long x :: st)) : zW X R E μ ce sl Q pc lv st := fun H locs ls a1 a2 a3 => lv_lload_n hX.x hX.b d rfl (a3.at hl) (kk H locs ls a1 a2 a3)
theorem z_lload (hX : zOK X E cc own ret nL) {i : Nat} {x : Int64} (hl : lv[i]? = some (some (.long x))) (d : decode cc pc = .ok (.lload i, 2)) (kk : zW X R E μ ce sl Q (pc + 2) lv (.long x :: st)) : zW X R E μ ce sl Q pc lv st := fun H locs ls a1 a2 a3 => lv_lload hX.x hX.b d (a3.at hl) (kk H locs ls a1 a2 a3)
theorem zrf (v : Value) (h : v.isRef = true) : v = .null ∨ ∃ a, v = .ref a := by cases v <;> simp_all [Value.isRef]
theorem z_aload_n (hX : zOK X E cc own ret nL) {k : Fin 4} {v : Value} (hl : lv[(k : Nat)]? = some (some v)) (hv : v.isRef = true) (d : decode cc pc = .ok (.aload_n k, 1)) (kk : zW X R E μ ce sl Q (pc + 1) lv (v :: st)) : zW X R E μ ce sl Q pc lv st := fun H locs ls a1 a2 a3 => by
  rcases zrf v hv with rfl | ⟨a, rfl⟩
  · exact lv_aload_nN hX.x hX.b d rfl (a3.at hl) (kk H locs ls a1 a2 a3)
  · exact lv_aload_n hX.x hX.b d rfl (a3.at hl) (kk H locs ls a1 a2 a3)
theorem z_aload (hX : zOK X E cc own ret nL) {i : Nat} {v : Value} (hl : lv[i]? = some (some v)) (hv : v.isRef = true) (d : decode cc pc = .ok (.aload i, 2)) (kk : zW X R E μ ce sl Q (pc + 2) lv (v :: st)) : zW X R E μ ce sl Q pc lv st := fun H locs ls a1 a2 a3 => by
  rcases zrf v hv with rfl | ⟨a, rfl⟩
  · exact lv_aloadN hX.x hX.b d (a3.at hl) (kk H locs ls a1 a2 a3)
  · exact lv_aload hX.x hX.b d (a3.at hl) (kk H locs ls a1 a2 a3)
theorem va_rf_r (r : Option Nat) : (va_rf r).isRef = true := by cases r <;> rfl
theorem va_rf_c (r : Option Nat) : (va_rf r).category = 1 := by cases r <;> rfl
theorem z_istore_n (hX : zOK X E cc own ret nL) {k : Fin 4} {x : Int32} {lv' : List (Option Value)} (hi : (k : Nat) < lv.length) (hp : zpre lv (k : Nat)) (hl : lv.set (k : Nat) (some (.int x)) = lv') (d : decode cc pc = .ok (.istore_n k, 1)) (kk : zW X R E μ ce sl Q (pc + 1) lv' st) : zW X R E μ ce sl Q pc lv (.int x :: st) := fun H locs ls a1 a2 a3 => lv_istore_n hX.x hX.b d rfl a3.all hi rfl (fun ls' h' => kk H locs ls' a1 a2 (hl ▸ zL.of1 (zps_in lv) hi hp h'))
theorem z_istore (hX : zOK X E cc own ret nL) {i : Nat} {x : Int32} {lv' : List (Option Value)} (hi : i < lv.length) (hp : zpre lv i) (hl : lv.set i (some (.int x)) = lv') (d : decode cc pc = .ok (.istore i, 2)) (kk : zW X R E μ ce sl Q (pc + 2) lv' st) : zW X R E μ ce sl Q pc lv (.int x :: st) := fun H locs ls a1 a2 a3 => lv_istore hX.x hX.b d a3.all hi rfl (fun ls' h' => kk H locs ls' a1 a2 (hl ▸ zL.of1 (zps_in lv) hi hp h'))
theorem z_lstore_n (hX : zOK X E cc own ret nL) {k : Fin 4} {x : Int64} {lv' : List (Option Value)} (hi : (k : Nat) + 1 < lv.length) (hp : zpre lv (k : Nat)) (hq : lv[(k : Nat) + 1]? = some none) (hl : lv.set (k : Nat) (some (.long x)) = lv') (d : decode cc pc = .ok (.lstore_n k, 1)) (kk : zW X R E μ ce sl Q (pc + 1) lv' st) : zW X R E μ ce sl Q pc lv (.long x :: st) := fun H locs ls a1 a2 a3 => lv_lstore_n hX.x hX.b d rfl a3.all hi rfl (fun ls' h' => kk H locs ls' a1 a2 (hl ▸ zL.of2 (zps_in lv) hi hp hq h'))
theorem z_lstore (hX : zOK X E cc own ret nL) {i : Nat} {x : Int64} {lv' : List (Option Value)} (hi : i + 1 < lv.length) (hp : zpre lv i) (hq : lv[i + 1]? = some none) (hl : lv.set i (some (.long x)) = lv') (d : decode cc pc = .ok (.lstore i, 2)) (kk : zW X R E μ ce sl Q (pc + 2) lv' st) : zW X R E μ ce sl Q pc lv (.long x :: st) := fun H locs ls a1 a2 a3 => lv_lstore hX.x hX.b d a3.all hi rfl (fun ls' h' => kk H locs ls' a1 a2 (hl ▸ zL.of2 (zps_in lv) hi hp hq h'))
theorem z_astore_n (hX : zOK X E cc own ret nL) {k : Fin 4} {v : Value} {lv' : List (Option Value)} (hv : v.isRef = true) (hi : (k : Nat) < lv.length) (hp : zpre lv (k : Nat)) (hl : lv.set (k : Nat) (some v) = lv') (d : decode cc pc = .ok (.astore_n k, 1)) (kk : zW X R E μ ce sl Q (pc + 1) lv' st) : zW X R E μ ce sl Q pc lv (v :: st) := fun H locs ls a1 a2 a3 => by
  rcases zrf v hv with rfl | ⟨a, rfl⟩
  · exact lv_astore_nN hX.x hX.b d rfl a3.all hi rfl (fun ls' h' => kk H locs ls' a1 a2 (hl ▸ zL.of1 (zps_in lv) hi hp h'))
  · exact lv_astore_n hX.x hX.b d rfl a3.all hi rfl (fun ls' h' => kk H locs ls' a1 a2 (hl ▸ zL.of1 (zps_in lv) hi hp h'))
theorem z_astore (hX : zOK X E cc own ret nL) {i : Nat} {v : Value} {lv' : List (Option Value)} (hv : v.isRef = true) (hi : i < lv.length) (hp : zpre lv i) (hl : lv.set i (some v) = lv') (d : decode cc pc = .ok (.astore i, 2)) (kk : zW X R E μ ce sl Q (pc + 2) lv' st) : zW X R E μ ce sl Q pc lv (v :: st) := fun H locs ls a1 a2 a3 => by
  rcases zrf v hv with rfl | ⟨a, rfl⟩
  · exact lv_astoreN hX.x hX.b d a3.all hi rfl (fun ls' h' => kk H locs ls' a1 a2 (hl ▸ zL.of1 (zps_in lv) hi hp h'))
  · exact lv_astore hX.x hX.b d a3.all hi rfl (fun ls' h' => kk H locs ls' a1 a2 (hl ▸ zL.of1 (zps_in lv) hi hp h'))
theorem z_iinc (hX : zOK X E cc own ret nL) {i : Nat} {n a : Int} {lv' : List (Option Value)} (hk : lv[i]? = some (some (.int (zI a)))) (hi : i < lv.length) (hp : zpre lv i) (hl : lv.set i (some (.int (zI (a + n)))) = lv') (d : decode cc pc = .ok (.iinc i n, 3)) (kk : zW X R E μ ce sl Q (pc + 3) lv' st) : zW X R E μ ce sl Q pc lv st := fun H locs ls a1 a2 a3 => by
  have h : lv_has ls lv.length ((i, Value.int (zI a)) :: zps 0 lv) := a3.has _ (fun q hq => by
    rcases List.mem_cons.mp hq with e | e
    · rw [e]; exact hk
    · obtain ⟨j, h1, h2⟩ := (zps_mem lv 0 q).mp e
      rw [h1, Nat.zero_add]; exact h2)
  exact lv_iinc (v := zI (a + n)) hX.x hX.b d h (k := 0) rfl (zI_add a n) hi rfl (fun ls' h' => kk H locs ls' a1 a2 (hl ▸ zL.of1 (fun j w hw => List.mem_cons_of_mem _ (zps_in lv j w hw)) hi hp h'))
theorem z_iadd (hX : zOK X E cc own ret nL) {a b : Int} (d : decode cc pc = .ok (.iadd, 1)) (k : zW X R E μ ce sl Q (pc + 1) lv (.int (zI (a + b)) :: st)) : zW X R E μ ce sl Q pc lv (.int (zI b) :: .int (zI a) :: st) := fun H locs ls a1 a2 a3 => lv_iadd hX.x hX.b d (zI_add a b ▸ k H locs ls a1 a2 a3)
theorem z_isub (hX : zOK X E cc own ret nL) {a b : Int} (d : decode cc pc = .ok (.isub, 1)) (k : zW X R E μ ce sl Q (pc + 1) lv (.int (zI (a - b)) :: st)) : zW X R E μ ce sl Q pc lv (.int (zI b) :: .int (zI a) :: st) := fun H locs ls a1 a2 a3 => lv_isub hX.x hX.b d (zI_sub a b ▸ k H locs ls a1 a2 a3)
theorem z_imul (hX : zOK X E cc own ret nL) {a b : Int} (d : decode cc pc = .ok (.imul, 1)) (k : zW X R E μ ce sl Q (pc + 1) lv (.int (zI (a * b)) :: st)) : zW X R E μ ce sl Q pc lv (.int (zI b) :: .int (zI a) :: st) := fun H locs ls a1 a2 a3 => lv_imul hX.x hX.b d (zI_mul a b ▸ k H locs ls a1 a2 a3)
theorem z_ladd (hX : zOK X E cc own ret nL) {a b : Int} (d : decode cc pc = .ok (.ladd, 1)) (k : zW X R E μ ce sl Q (pc + 1) lv (.long (zJ (a + b)) :: st)) : zW X R E μ ce sl Q pc lv (.long (zJ b) :: .long (zJ a) :: st) := fun H locs ls a1 a2 a3 => lv_ladd hX.x hX.b d (zJ_add a b ▸ k H locs ls a1 a2 a3)
theorem z_lsub (hX : zOK X E cc own ret nL) {a b : Int} (d : decode cc pc = .ok (.lsub, 1)) (k : zW X R E μ ce sl Q (pc + 1) lv (.long (zJ (a - b)) :: st)) : zW X R E μ ce sl Q pc lv (.long (zJ b) :: .long (zJ a) :: st) := fun H locs ls a1 a2 a3 => lv_lsub hX.x hX.b d (zJ_sub a b ▸ k H locs ls a1 a2 a3)
theorem z_lmul (hX : zOK X E cc own ret nL) {a b : Int} (d : decode cc pc = .ok (.lmul, 1)) (k : zW X R E μ ce sl Q (pc + 1) lv (.long (zJ (a * b)) :: st)) : zW X R E μ ce sl Q pc lv (.long (zJ b) :: .long (zJ a) :: st) := fun H locs ls a1 a2 a3 => lv_lmul hX.x hX.b d (zJ_mul a b ▸ k H locs ls a1 a2 a3)
theorem z_ineg (hX : zOK X E cc own ret nL) {a : Int} (d : decode cc pc = .ok (.ineg, 1)) (k : zW X R E μ ce sl Q (pc + 1) lv (.int (zI (-a)) :: st)) : zW X R E μ ce sl Q pc lv (.int (zI a) :: st) := fun H locs ls a1 a2 a3 => lv_ineg hX.x hX.b d (zI_neg a ▸ k H locs ls a1 a2 a3)
theorem z_lneg (hX : zOK X E cc own ret nL) {a : Int} (d : decode cc pc = .ok (.lneg, 1)) (k : zW X R E μ ce sl Q (pc + 1) lv (.long (zJ (-a)) :: st)) : zW X R E μ ce sl Q pc lv (.long (zJ a) :: st) := fun H locs ls a1 a2 a3 => lv_lneg hX.x hX.b d (zJ_neg a ▸ k H locs ls a1 a2 a3)
theorem z_i2l (hX : zOK X E cc own ret nL) {a : Int} (ha : -2147483648 ≤ a ∧ a ≤ 2147483647) (d : decode cc pc = .ok (.i2l, 1)) (k : zW X R E μ ce sl Q (pc + 1) lv (.long (zJ a) :: st)) : zW X R E μ ce sl Q pc lv (.int (zI a) :: st) := fun H locs ls a1 a2 a3 => lv_i2l hX.x hX.b d (zI_J ha) (k H locs ls a1 a2 a3)
theorem z_pop (hX : zOK X E cc own ret nL) {v : Value} (hv : v.category = 1) (d : decode cc pc = .ok (.pop, 1)) (k : zW X R E μ ce sl Q (pc + 1) lv st) : zW X R E μ ce sl Q pc lv (v :: st) := fun H locs ls a1 a2 a3 => lv_pop hX.x hX.b d hv (k H locs ls a1 a2 a3)
theorem z_dup (hX : zOK X E cc own ret nL) {v : Value} (hv : v.category = 1) (d : decode cc pc = .ok (.dup, 1)) (k : zW X R E μ ce sl Q (pc + 1) lv (v :: v :: st)) : zW X R E μ ce sl Q pc lv (v :: st) := fun H locs ls a1 a2 a3 => lv_dup hX.x hX.b d hv (k H locs ls a1 a2 a3)
theorem z_dup_x1 (hX : zOK X E cc own ret nL) {v w : Value} (hv : v.category = 1) (hw : w.category = 1) (d : decode cc pc = .ok (.dup_x1, 1)) (k : zW X R E μ ce sl Q (pc + 1) lv (v :: w :: v :: st)) : zW X R E μ ce sl Q pc lv (v :: w :: st) := fun H locs ls a1 a2 a3 => lv_dup_x1 hX.x hX.b d hv hw (k H locs ls a1 a2 a3)
theorem z_dup2 (hX : zOK X E cc own ret nL) {v w : Value} (hv : v.category = 1) (hw : w.category = 1) (d : decode cc pc = .ok (.dup2, 1)) (k : zW X R E μ ce sl Q (pc + 1) lv (v :: w :: v :: w :: st)) : zW X R E μ ce sl Q pc lv (v :: w :: st) := fun H locs ls a1 a2 a3 => lv_dup2_11 hX.x hX.b d hv hw (k H locs ls a1 a2 a3)
theorem z_goto (hX : zOK X E cc own ret nL) {off : Int} {tgt : Nat} (d : decode cc pc = .ok (.goto off, 3)) (ht : (pc : Int) + off = (tgt : Int)) (k : zW X R E μ ce sl Q tgt lv st) : zW X R E μ ce sl Q pc lv st := fun H locs ls a1 a2 a3 => lv_goto hX.x hX.b d ht (k H locs ls a1 a2 a3)
theorem z_ior_b (hX : zOK X E cc own ret nL) {a b : Bool} (d : decode cc pc = .ok (.ior, 1)) (k : zW X R E μ ce sl Q (pc + 1) lv (.int (zI (zb (a || b))) :: st)) : zW X R E μ ce sl Q pc lv (.int (zI (zb b)) :: .int (zI (zb a)) :: st) := fun H locs ls a1 a2 a3 => lv_ior hX.x hX.b d ((show zI (zb a) ||| zI (zb b) = zI (zb (a || b)) by cases a <;> cases b <;> decide) ▸ k H locs ls a1 a2 a3)
theorem z_iand_b (hX : zOK X E cc own ret nL) {a b : Bool} (d : decode cc pc = .ok (.iand, 1)) (k : zW X R E μ ce sl Q (pc + 1) lv (.int (zI (zb (a && b))) :: st)) : zW X R E μ ce sl Q pc lv (.int (zI (zb b)) :: .int (zI (zb a)) :: st) := fun H locs ls a1 a2 a3 => lv_iand hX.x hX.b d ((show zI (zb a) &&& zI (zb b) = zI (zb (a && b)) by cases a <;> cases b <;> decide) ▸ k H locs ls a1 a2 a3)
theorem z_bin {f : Int32 → Int32 → Int32} {a b z : Int} (h : f (zI a) (zI b) = zI z) : f (zI a) (zI b) = zI z := h
theorem z_ior (hX : zOK X E cc own ret nL) {a b z : Int} (h : zI a ||| zI b = zI z) (d : decode cc pc = .ok (.ior, 1)) (k : zW X R E μ ce sl Q (pc + 1) lv (.int (zI z) :: st)) : zW X R E μ ce sl Q pc lv (.int (zI b) :: .int (zI a) :: st) := fun H locs ls a1 a2 a3 => lv_ior hX.x hX.b d (h ▸ k H locs ls a1 a2 a3)
theorem z_iand (hX : zOK X E cc own ret nL) {a b z : Int} (h : zI a &&& zI b = zI z) (d : decode cc pc = .ok (.iand, 1)) (k : zW X R E μ ce sl Q (pc + 1) lv (.int (zI z) :: st)) : zW X R E μ ce sl Q pc lv (.int (zI b) :: .int (zI a) :: st) := fun H locs ls a1 a2 a3 => lv_iand hX.x hX.b d (h ▸ k H locs ls a1 a2 a3)
theorem z_ixor (hX : zOK X E cc own ret nL) {a b z : Int} (h : zI a ^^^ zI b = zI z) (d : decode cc pc = .ok (.ixor, 1)) (k : zW X R E μ ce sl Q (pc + 1) lv (.int (zI z) :: st)) : zW X R E μ ce sl Q pc lv (.int (zI b) :: .int (zI a) :: st) := fun H locs ls a1 a2 a3 => lv_ixor hX.x hX.b d (h ▸ k H locs ls a1 a2 a3)
theorem z_ishl (hX : zOK X E cc own ret nL) {a b z : Int} (h : zI a <<< (zI b &&& 31) = zI z) (d : decode cc pc = .ok (.ishl, 1)) (k : zW X R E μ ce sl Q (pc + 1) lv (.int (zI z) :: st)) : zW X R E μ ce sl Q pc lv (.int (zI b) :: .int (zI a) :: st) := fun H locs ls a1 a2 a3 => lv_ishl hX.x hX.b d (h ▸ k H locs ls a1 a2 a3)
theorem z_ishr (hX : zOK X E cc own ret nL) {a b z : Int} (h : zI a >>> (zI b &&& 31) = zI z) (d : decode cc pc = .ok (.ishr, 1)) (k : zW X R E μ ce sl Q (pc + 1) lv (.int (zI z) :: st)) : zW X R E μ ce sl Q pc lv (.int (zI b) :: .int (zI a) :: st) := fun H locs ls a1 a2 a3 => lv_ishr hX.x hX.b d (h ▸ k H locs ls a1 a2 a3)
theorem z_iushr (hX : zOK X E cc own ret nL) {a b z : Int} (h : ((zI a).toUInt32 >>> ((zI b).toUInt32 &&& Int32.toUInt32 31)).toInt32 = zI z) (d : decode cc pc = .ok (.iushr, 1)) (k : zW X R E μ ce sl Q (pc + 1) lv (.int (zI z) :: st)) : zW X R E μ ce sl Q pc lv (.int (zI b) :: .int (zI a) :: st) := fun H locs ls a1 a2 a3 => lv_iushr hX.x hX.b d h (k H locs ls a1 a2 a3)
theorem z_ldiv (hX : zOK X E cc own ret nL) {a b z : Int} (hb : ¬ zJ b = 0) (h : zJ a / zJ b = zJ z) (d : decode cc pc = .ok (.ldiv, 1)) (k : zW X R E μ ce sl Q (pc + 1) lv (.long (zJ z) :: st)) : zW X R E μ ce sl Q pc lv (.long (zJ b) :: .long (zJ a) :: st) := fun H locs ls a1 a2 a3 => lv_ldiv hX.x hX.b d hb (h ▸ k H locs ls a1 a2 a3)
theorem z_lrem (hX : zOK X E cc own ret nL) {a b z : Int} (hb : ¬ zJ b = 0) (h : zJ a - zJ a / zJ b * zJ b = zJ z) (d : decode cc pc = .ok (.lrem, 1)) (k : zW X R E μ ce sl Q (pc + 1) lv (.long (zJ z) :: st)) : zW X R E μ ce sl Q pc lv (.long (zJ b) :: .long (zJ a) :: st) := fun H locs ls a1 a2 a3 => lv_lrem hX.x hX.b d hb (h ▸ k H locs ls a1 a2 a3)
theorem z_icmp_eq (hX : zOK X E cc own ret nL) {a b off : Int} {tgt : Nat} (ha : -2147483648 ≤ a ∧ a ≤ 2147483647) (hb : -2147483648 ≤ b ∧ b ≤ 2147483647) (d : decode cc pc = .ok (.if_icmp .eq off, 3)) (ht : (pc : Int) + off = (tgt : Int)) (kt : a = b → zW X R E μ ce sl Q tgt lv st) (kf : ¬ (a = b) → zW X R E μ ce sl Q (pc + 3) lv st) : zW X R E μ ce sl Q pc lv (.int (zI b) :: .int (zI a) :: st) := fun H locs ls a1 a2 a3 => lv_icmp_eq hX.x hX.b d ht (fun q => kt (by rwa [zI_eq ha hb] at q) H locs ls a1 a2 a3) (fun q => kf (by rwa [zI_eq ha hb] at q) H locs ls a1 a2 a3)
theorem z_if_eq (hX : zOK X E cc own ret nL) {a off : Int} {tgt : Nat} (ha : -2147483648 ≤ a ∧ a ≤ 2147483647) (d : decode cc pc = .ok (.ifCond .eq off, 3)) (ht : (pc : Int) + off = (tgt : Int)) (kt : a = 0 → zW X R E μ ce sl Q tgt lv st) (kf : ¬ (a = 0) → zW X R E μ ce sl Q (pc + 3) lv st) : zW X R E μ ce sl Q pc lv (.int (zI a) :: st) := fun H locs ls a1 a2 a3 => lv_if_eq hX.x hX.b d ht (fun q => kt (by rwa [show (0 : Int32) = zI 0 from rfl, zI_eq ha (by decide)] at q) H locs ls a1 a2 a3) (fun q => kf (by rwa [show (0 : Int32) = zI 0 from rfl, zI_eq ha (by decide)] at q) H locs ls a1 a2 a3)
theorem z_lcmp_eq (hX : zOK X E cc own ret nL) {a b off : Int} {tgt : Nat} (ha : -9223372036854775808 ≤ a ∧ a ≤ 9223372036854775807) (hb : -9223372036854775808 ≤ b ∧ b ≤ 9223372036854775807) (d : decode cc pc = .ok (.lcmp, 1)) (d2 : decode cc (pc + 1) = .ok (.ifCond .eq off, 3)) (ht : ((pc + 1 : Nat) : Int) + off = (tgt : Int)) (kt : a = b → zW X R E μ ce sl Q tgt lv st) (kf : ¬ (a = b) → zW X R E μ ce sl Q (pc + 1 + 3) lv st) : zW X R E μ ce sl Q pc lv (.long (zJ b) :: .long (zJ a) :: st) := fun H locs ls a1 a2 a3 => W.lcmp hX.x hX.b d (lv_if_eq hX.x hX.b d2 ht (fun q => kt (by rwa [lg_cmp_eq, zJ_eq ha hb] at q) H locs ls a1 a2 a3) (fun q => kf (by rwa [lg_cmp_eq, zJ_eq ha hb] at q) H locs ls a1 a2 a3))
theorem z_icmp_ne (hX : zOK X E cc own ret nL) {a b off : Int} {tgt : Nat} (ha : -2147483648 ≤ a ∧ a ≤ 2147483647) (hb : -2147483648 ≤ b ∧ b ≤ 2147483647) (d : decode cc pc = .ok (.if_icmp .ne off, 3)) (ht : (pc : Int) + off = (tgt : Int)) (kt : ¬ a = b → zW X R E μ ce sl Q tgt lv st) (kf : a = b → zW X R E μ ce sl Q (pc + 3) lv st) : zW X R E μ ce sl Q pc lv (.int (zI b) :: .int (zI a) :: st) := fun H locs ls a1 a2 a3 => lv_icmp_ne hX.x hX.b d ht (fun q => kt (by rwa [zI_eq ha hb] at q) H locs ls a1 a2 a3) (fun q => kf (by rwa [zI_eq ha hb] at q) H locs ls a1 a2 a3)
theorem z_if_ne (hX : zOK X E cc own ret nL) {a off : Int} {tgt : Nat} (ha : -2147483648 ≤ a ∧ a ≤ 2147483647) (d : decode cc pc = .ok (.ifCond .ne off, 3)) (ht : (pc : Int) + off = (tgt : Int)) (kt : ¬ a = 0 → zW X R E μ ce sl Q tgt lv st) (kf : a = 0 → zW X R E μ ce sl Q (pc + 3) lv st) : zW X R E μ ce sl Q pc lv (.int (zI a) :: st) := fun H locs ls a1 a2 a3 => lv_if_ne hX.x hX.b d ht (fun q => kt (by rwa [show (0 : Int32) = zI 0 from rfl, zI_eq ha (by decide)] at q) H locs ls a1 a2 a3) (fun q => kf (by rwa [show (0 : Int32) = zI 0 from rfl, zI_eq ha (by decide)] at q) H locs ls a1 a2 a3)
theorem z_lcmp_ne (hX : zOK X E cc own ret nL) {a b off : Int} {tgt : Nat} (ha : -9223372036854775808 ≤ a ∧ a ≤ 9223372036854775807) (hb : -9223372036854775808 ≤ b ∧ b ≤ 9223372036854775807) (d : decode cc pc = .ok (.lcmp, 1)) (d2 : decode cc (pc + 1) = .ok (.ifCond .ne off, 3)) (ht : ((pc + 1 : Nat) : Int) + off = (tgt : Int)) (kt : ¬ a = b → zW X R E μ ce sl Q tgt lv st) (kf : a = b → zW X R E μ ce sl Q (pc + 1 + 3) lv st) : zW X R E μ ce sl Q pc lv (.long (zJ b) :: .long (zJ a) :: st) := fun H locs ls a1 a2 a3 => W.lcmp hX.x hX.b d (lv_if_ne hX.x hX.b d2 ht (fun q => kt (by rwa [lg_cmp_eq, zJ_eq ha hb] at q) H locs ls a1 a2 a3) (fun q => kf (by rwa [lg_cmp_eq, zJ_eq ha hb] at q) H locs ls a1 a2 a3))
theorem z_icmp_lt (hX : zOK X E cc own ret nL) {a b off : Int} {tgt : Nat} (ha : -2147483648 ≤ a ∧ a ≤ 2147483647) (hb : -2147483648 ≤ b ∧ b ≤ 2147483647) (d : decode cc pc = .ok (.if_icmp .lt off, 3)) (ht : (pc : Int) + off = (tgt : Int)) (kt : a < b → zW X R E μ ce sl Q tgt lv st) (kf : ¬ (a < b) → zW X R E μ ce sl Q (pc + 3) lv st) : zW X R E μ ce sl Q pc lv (.int (zI b) :: .int (zI a) :: st) := fun H locs ls a1 a2 a3 => lv_icmp_lt hX.x hX.b d ht (fun q => kt (by rwa [zI_lt ha hb] at q) H locs ls a1 a2 a3) (fun q => kf (by rwa [zI_lt ha hb] at q) H locs ls a1 a2 a3)
theorem z_if_lt (hX : zOK X E cc own ret nL) {a off : Int} {tgt : Nat} (ha : -2147483648 ≤ a ∧ a ≤ 2147483647) (d : decode cc pc = .ok (.ifCond .lt off, 3)) (ht : (pc : Int) + off = (tgt : Int)) (kt : a < 0 → zW X R E μ ce sl Q tgt lv st) (kf : ¬ (a < 0) → zW X R E μ ce sl Q (pc + 3) lv st) : zW X R E μ ce sl Q pc lv (.int (zI a) :: st) := fun H locs ls a1 a2 a3 => lv_if_lt hX.x hX.b d ht (fun q => kt (by rwa [show (0 : Int32) = zI 0 from rfl, zI_lt ha (by decide)] at q) H locs ls a1 a2 a3) (fun q => kf (by rwa [show (0 : Int32) = zI 0 from rfl, zI_lt ha (by decide)] at q) H locs ls a1 a2 a3)
theorem z_lcmp_lt (hX : zOK X E cc own ret nL) {a b off : Int} {tgt : Nat} (ha : -9223372036854775808 ≤ a ∧ a ≤ 9223372036854775807) (hb : -9223372036854775808 ≤ b ∧ b ≤ 9223372036854775807) (d : decode cc pc = .ok (.lcmp, 1)) (d2 : decode cc (pc + 1) = .ok (.ifCond .lt off, 3)) (ht : ((pc + 1 : Nat) : Int) + off = (tgt : Int)) (kt : a < b → zW X R E μ ce sl Q tgt lv st) (kf : ¬ (a < b) → zW X R E μ ce sl Q (pc + 1 + 3) lv st) : zW X R E μ ce sl Q pc lv (.long (zJ b) :: .long (zJ a) :: st) := fun H locs ls a1 a2 a3 => W.lcmp hX.x hX.b d (lv_if_lt hX.x hX.b d2 ht (fun q => kt (by rwa [lg_cmp_lt, zJ_lt ha hb] at q) H locs ls a1 a2 a3) (fun q => kf (by rwa [lg_cmp_lt, zJ_lt ha hb] at q) H locs ls a1 a2 a3))
theorem z_icmp_ge (hX : zOK X E cc own ret nL) {a b off : Int} {tgt : Nat} (ha : -2147483648 ≤ a ∧ a ≤ 2147483647) (hb : -2147483648 ≤ b ∧ b ≤ 2147483647) (d : decode cc pc = .ok (.if_icmp .ge off, 3)) (ht : (pc : Int) + off = (tgt : Int)) (kt : b ≤ a → zW X R E μ ce sl Q tgt lv st) (kf : ¬ (b ≤ a) → zW X R E μ ce sl Q (pc + 3) lv st) : zW X R E μ ce sl Q pc lv (.int (zI b) :: .int (zI a) :: st) := fun H locs ls a1 a2 a3 => lv_icmp_ge hX.x hX.b d ht (fun q => kt (by rwa [zI_le hb ha] at q) H locs ls a1 a2 a3) (fun q => kf (by rwa [zI_le hb ha] at q) H locs ls a1 a2 a3)
theorem z_if_ge (hX : zOK X E cc own ret nL) {a off : Int} {tgt : Nat} (ha : -2147483648 ≤ a ∧ a ≤ 2147483647) (d : decode cc pc = .ok (.ifCond .ge off, 3)) (ht : (pc : Int) + off = (tgt : Int)) (kt : 0 ≤ a → zW X R E μ ce sl Q tgt lv st) (kf : ¬ (0 ≤ a) → zW X R E μ ce sl Q (pc + 3) lv st) : zW X R E μ ce sl Q pc lv (.int (zI a) :: st) := fun H locs ls a1 a2 a3 => lv_if_ge hX.x hX.b d ht (fun q => kt (by rwa [show (0 : Int32) = zI 0 from rfl, zI_le (by decide) ha] at q) H locs ls a1 a2 a3) (fun q => kf (by rwa [show (0 : Int32) = zI 0 from rfl, zI_le (by decide) ha] at q) H locs ls a1 a2 a3)
theorem z_lcmp_ge (hX : zOK X E cc own ret nL) {a b off : Int} {tgt : Nat} (ha : -9223372036854775808 ≤ a ∧ a ≤ 9223372036854775807) (hb : -9223372036854775808 ≤ b ∧ b ≤ 9223372036854775807) (d : decode cc pc = .ok (.lcmp, 1)) (d2 : decode cc (pc + 1) = .ok (.ifCond .ge off, 3)) (ht : ((pc + 1 : Nat) : Int) + off = (tgt : Int)) (kt : b ≤ a → zW X R E μ ce sl Q tgt lv st) (kf : ¬ (b ≤ a) → zW X R E μ ce sl Q (pc + 1 + 3) lv st) : zW X R E μ ce sl Q pc lv (.long (zJ b) :: .long (zJ a) :: st) := fun H locs ls a1 a2 a3 => W.lcmp hX.x hX.b d (lv_if_ge hX.x hX.b d2 ht (fun q => kt (by rwa [lg_cmp_ge, zJ_le hb ha] at q) H locs ls a1 a2 a3) (fun q => kf (by rwa [lg_cmp_ge, zJ_le hb ha] at q) H locs ls a1 a2 a3))
theorem z_icmp_gt (hX : zOK X E cc own ret nL) {a b off : Int} {tgt : Nat} (ha : -2147483648 ≤ a ∧ a ≤ 2147483647) (hb : -2147483648 ≤ b ∧ b ≤ 2147483647) (d : decode cc pc = .ok (.if_icmp .gt off, 3)) (ht : (pc : Int) + off = (tgt : Int)) (kt : b < a → zW X R E μ ce sl Q tgt lv st) (kf : ¬ (b < a) → zW X R E μ ce sl Q (pc + 3) lv st) : zW X R E μ ce sl Q pc lv (.int (zI b) :: .int (zI a) :: st) := fun H locs ls a1 a2 a3 => lv_icmp_gt hX.x hX.b d ht (fun q => kt (by rwa [zI_lt hb ha] at q) H locs ls a1 a2 a3) (fun q => kf (by rwa [zI_lt hb ha] at q) H locs ls a1 a2 a3)
theorem z_if_gt (hX : zOK X E cc own ret nL) {a off : Int} {tgt : Nat} (ha : -2147483648 ≤ a ∧ a ≤ 2147483647) (d : decode cc pc = .ok (.ifCond .gt off, 3)) (ht : (pc : Int) + off = (tgt : Int)) (kt : 0 < a → zW X R E μ ce sl Q tgt lv st) (kf : ¬ (0 < a) → zW X R E μ ce sl Q (pc + 3) lv st) : zW X R E μ ce sl Q pc lv (.int (zI a) :: st) := fun H locs ls a1 a2 a3 => lv_if_gt hX.x hX.b d ht (fun q => kt (by rwa [show (0 : Int32) = zI 0 from rfl, zI_lt (by decide) ha] at q) H locs ls a1 a2 a3) (fun q => kf (by rwa [show (0 : Int32) = zI 0 from rfl, zI_lt (by decide) ha] at q) H locs ls a1 a2 a3)
theorem z_lcmp_gt (hX : zOK X E cc own ret nL) {a b off : Int} {tgt : Nat} (ha : -9223372036854775808 ≤ a ∧ a ≤ 9223372036854775807) (hb : -9223372036854775808 ≤ b ∧ b ≤ 9223372036854775807) (d : decode cc pc = .ok (.lcmp, 1)) (d2 : decode cc (pc + 1) = .ok (.ifCond .gt off, 3)) (ht : ((pc + 1 : Nat) : Int) + off = (tgt : Int)) (kt : b < a → zW X R E μ ce sl Q tgt lv st) (kf : ¬ (b < a) → zW X R E μ ce sl Q (pc + 1 + 3) lv st) : zW X R E μ ce sl Q pc lv (.long (zJ b) :: .long (zJ a) :: st) := fun H locs ls a1 a2 a3 => W.lcmp hX.x hX.b d (lv_if_gt hX.x hX.b d2 ht (fun q => kt (by rwa [lg_cmp_gt, zJ_lt hb ha] at q) H locs ls a1 a2 a3) (fun q => kf (by rwa [lg_cmp_gt, zJ_lt hb ha] at q) H locs ls a1 a2 a3))
theorem z_icmp_le (hX : zOK X E cc own ret nL) {a b off : Int} {tgt : Nat} (ha : -2147483648 ≤ a ∧ a ≤ 2147483647) (hb : -2147483648 ≤ b ∧ b ≤ 2147483647) (d : decode cc pc = .ok (.if_icmp .le off, 3)) (ht : (pc : Int) + off = (tgt : Int)) (kt : a ≤ b → zW X R E μ ce sl Q tgt lv st) (kf : ¬ (a ≤ b) → zW X R E μ ce sl Q (pc + 3) lv st) : zW X R E μ ce sl Q pc lv (.int (zI b) :: .int (zI a) :: st) := fun H locs ls a1 a2 a3 => lv_icmp_le hX.x hX.b d ht (fun q => kt (by rwa [zI_le ha hb] at q) H locs ls a1 a2 a3) (fun q => kf (by rwa [zI_le ha hb] at q) H locs ls a1 a2 a3)
theorem z_if_le (hX : zOK X E cc own ret nL) {a off : Int} {tgt : Nat} (ha : -2147483648 ≤ a ∧ a ≤ 2147483647) (d : decode cc pc = .ok (.ifCond .le off, 3)) (ht : (pc : Int) + off = (tgt : Int)) (kt : a ≤ 0 → zW X R E μ ce sl Q tgt lv st) (kf : ¬ (a ≤ 0) → zW X R E μ ce sl Q (pc + 3) lv st) : zW X R E μ ce sl Q pc lv (.int (zI a) :: st) := fun H locs ls a1 a2 a3 => lv_if_le hX.x hX.b d ht (fun q => kt (by rwa [show (0 : Int32) = zI 0 from rfl, zI_le ha (by decide)] at q) H locs ls a1 a2 a3) (fun q => kf (by rwa [show (0 : Int32) = zI 0 from rfl, zI_le ha (by decide)] at q) H locs ls a1 a2 a3)
theorem z_lcmp_le (hX : zOK X E cc own ret nL) {a b off : Int} {tgt : Nat} (ha : -9223372036854775808 ≤ a ∧ a ≤ 9223372036854775807) (hb : -9223372036854775808 ≤ b ∧ b ≤ 9223372036854775807) (d : decode cc pc = .ok (.lcmp, 1)) (d2 : decode cc (pc + 1) = .ok (.ifCond .le off, 3)) (ht : ((pc + 1 : Nat) : Int) + off = (tgt : Int)) (kt : a ≤ b → zW X R E μ ce sl Q tgt lv st) (kf : ¬ (a ≤ b) → zW X R E μ ce sl Q (pc + 1 + 3) lv st) : zW X R E μ ce sl Q pc lv (.long (zJ b) :: .long (zJ a) :: st) := fun H locs ls a1 a2 a3 => W.lcmp hX.x hX.b d (lv_if_le hX.x hX.b d2 ht (fun q => kt (by rwa [lg_cmp_le, zJ_le ha hb] at q) H locs ls a1 a2 a3) (fun q => kf (by rwa [lg_cmp_le, zJ_le ha hb] at q) H locs ls a1 a2 a3))
theorem z_if_eq_b (hX : zOK X E cc own ret nL) {b : Bool} {off : Int} {tgt : Nat} (d : decode cc pc = .ok (.ifCond .eq off, 3)) (ht : (pc : Int) + off = (tgt : Int)) (kt : b = false → zW X R E μ ce sl Q tgt lv st) (kf : b = true → zW X R E μ ce sl Q (pc + 3) lv st) : zW X R E μ ce sl Q pc lv (.int (zI (zb b)) :: st) := fun H locs ls a1 a2 a3 => lv_if_eq hX.x hX.b d ht (fun q => kt (by cases b with | true => exact absurd q (by decide) | false => rfl) H locs ls a1 a2 a3) (fun q => kf (by cases b with | true => rfl | false => exact absurd rfl q) H locs ls a1 a2 a3)
theorem z_if_ne_b (hX : zOK X E cc own ret nL) {b : Bool} {off : Int} {tgt : Nat} (d : decode cc pc = .ok (.ifCond .ne off, 3)) (ht : (pc : Int) + off = (tgt : Int)) (kt : b = true → zW X R E μ ce sl Q tgt lv st) (kf : b = false → zW X R E μ ce sl Q (pc + 3) lv st) : zW X R E μ ce sl Q pc lv (.int (zI (zb b)) :: st) := fun H locs ls a1 a2 a3 => lv_if_ne hX.x hX.b d ht (fun q => kt (by cases b with | true => rfl | false => exact absurd rfl q) H locs ls a1 a2 a3) (fun q => kf (by cases b with | true => exact absurd q (by decide) | false => rfl) H locs ls a1 a2 a3)
theorem z_ifnull (hX : zOK X E cc own ret nL) {r : Option Nat} {off : Int} {tgt : Nat} (d : decode cc pc = .ok (.ifnull off, 3)) (ht : (pc : Int) + off = (tgt : Int)) (kt : r = none → zW X R E μ ce sl Q tgt lv st) (kf : ∀ a, r = some a → zW X R E μ ce sl Q (pc + 3) lv st) : zW X R E μ ce sl Q pc lv (va_rf r :: st) := fun H locs ls a1 a2 a3 => by
  cases r with
  | none => exact lv_ifnullN hX.x hX.b d ht (kt rfl H locs ls a1 a2 a3)
  | some a => exact lv_ifnull hX.x hX.b d (kf a rfl H locs ls a1 a2 a3)
theorem z_ifnonnull (hX : zOK X E cc own ret nL) {r : Option Nat} {off : Int} {tgt : Nat} (d : decode cc pc = .ok (.ifnonnull off, 3)) (ht : (pc : Int) + off = (tgt : Int)) (kt : ∀ a, r = some a → zW X R E μ ce sl Q tgt lv st) (kf : r = none → zW X R E μ ce sl Q (pc + 3) lv st) : zW X R E μ ce sl Q pc lv (va_rf r :: st) := fun H locs ls a1 a2 a3 => by
  cases r with
  | none => exact lv_ifnonnullN hX.x hX.b d (kf rfl H locs ls a1 a2 a3)
  | some a => exact lv_ifnonnull hX.x hX.b d ht (kt a rfl H locs ls a1 a2 a3)
theorem z_acmp_ne (hX : zOK X E cc own ret nL) {r q : Option Nat} {off : Int} {tgt : Nat} (d : decode cc pc = .ok (.if_acmp .ne off, 3)) (ht : (pc : Int) + off = (tgt : Int)) (kt : ¬ r = q → zW X R E μ ce sl Q tgt lv st) (kf : r = q → zW X R E μ ce sl Q (pc + 3) lv st) : zW X R E μ ce sl Q pc lv (va_rf q :: va_rf r :: st) := fun H locs ls a1 a2 a3 => lv_acmp_ne hX.x hX.b d ht (fun h => kt h H locs ls a1 a2 a3) (fun h => kf h H locs ls a1 a2 a3)
theorem z_acmp_eq (hX : zOK X E cc own ret nL) {r q : Option Nat} {off : Int} {tgt : Nat} (d : decode cc pc = .ok (.if_acmp .eq off, 3)) (ht : (pc : Int) + off = (tgt : Int)) (kt : r = q → zW X R E μ ce sl Q tgt lv st) (kf : ¬ r = q → zW X R E μ ce sl Q (pc + 3) lv st) : zW X R E μ ce sl Q pc lv (va_rf q :: va_rf r :: st) := fun H locs ls a1 a2 a3 => lv_acmp_eq hX.x hX.b d ht (fun h => kt h H locs ls a1 a2 a3) (fun h => kf h H locs ls a1 a2 a3)
theorem z_tableIn (hX : zOK X E cc own ret nL) {dflt lo hi a off : Int} {offs : Array Int} {len tgt : Nat} (ha : -2147483648 ≤ a ∧ a ≤ 2147483647) (h1 : lo ≤ a) (h2 : a ≤ hi) (ho : offs[(a - lo).toNat]? = some off) (d : decode cc pc = .ok (.tableswitch dflt lo hi offs, len)) (ht : (pc : Int) + off = (tgt : Int)) (k : zW X R E μ ce sl Q tgt lv st) : zW X R E μ ce sl Q pc lv (.int (zI a) :: st) := fun H locs ls a1 a2 a3 => lv_tableIn hX.x hX.b d (by rw [zI_toInt ha]; omega) (by rw [zI_toInt ha]; omega) (by rw [zI_toInt ha]; exact ho) ht (k H locs ls a1 a2 a3)
theorem z_tableOut (hX : zOK X E cc own ret nL) {dflt lo hi a : Int} {offs : Array Int} {len tgt : Nat} (ha : -2147483648 ≤ a ∧ a ≤ 2147483647) (h : a < lo ∨ hi < a) (d : decode cc pc = .ok (.tableswitch dflt lo hi offs, len)) (ht : (pc : Int) + dflt = (tgt : Int)) (k : zW X R E μ ce sl Q tgt lv st) : zW X R E μ ce sl Q pc lv (.int (zI a) :: st) := fun H locs ls a1 a2 a3 => lv_tableOut hX.x hX.b d (by rw [zI_toInt ha]; exact h) ht (k H locs ls a1 a2 a3)
end ZROWS
theorem zI_in {i : Int} {n : Nat} (h : 0 ≤ i ∧ i < (n : Int) ∧ n ≤ 2147483647) : vp_in (zI i) n := by
  rw [vp_in_iff, zI_toInt (by omega)]
  omega
theorem zI_cl {i : Int} (h : 0 ≤ i ∧ i ≤ 2147483647) : (((zI i).toNatClampNeg : Nat) : Int) = i := by
  show (((zI i).toInt.toNat : Nat) : Int) = i
  rw [zI_toInt (by omega)]
  omega
theorem zI_ix {i : Int} {n : Nat} (h : 0 ≤ i ∧ i < (n : Int) ∧ n ≤ 2147483647) (j : Nat) : (j = (zI i).toNatClampNeg) ↔ ((j : Int) = i) := by
  have h1 := zI_cl (i := i) (by omega)
  omega
section ZHEAP
variable {X : zX} {R : Room} {E : zE} {μ : zM} {ce sl : Nat} {Q : State → Prop} {pc : Nat} {lv : List (Option Value)} {st : List Value} {cc : ByteArray} {own : String} {ret : Option FieldType} {nL : Nat} {a : Nat} {n : Nat} {f : Int → Int} {i x : Int}
theorem zsame {s : State} {args : Array Value} {ref O f d : String} (hts : ∀ w ∈ lw_all, w.before args s = true) (h : ref = O ∨ Cond.sameField ref O f d ∈ lw_all) : ∀ x, s.fieldFound? O f d = some x → s.fieldFound? ref f d = some x := by
  intro x hx
  rcases h with h | h
  · rw [h]; exact hx
  · exact u_same (hts _ h) x hx
/-- a table's fields have different names, or are final ones of different classes -/
def znm (T : u_T) (N : Nat) : Prop := ∀ a, a < N → ∀ b, b < N → a ≠ b → ((T a).2.1 ≠ (T b).2.1 ∨ ((T a).1 ≠ (T b).1 ∧ (T a).2.2.2 = true ∧ (T b).2.2.2 = true))
theorem zfc_name {vm : Vm} {n : String} {c : ClassId} {k : Class} (h : vm.findClass n = some c) (hk : vm.classes[c]? = some k) : k.name = n := by
  obtain ⟨hlt, h1, -⟩ := Array.findIdx?_eq_some_iff_getElem.mp h
  rw [Array.getElem?_eq_getElem hlt] at hk
  cases hk
  simp only [Bool.and_eq_true] at h1
  exact eq_of_beq h1.1.1.1
theorem zapart {s : State} {args : Array Value} {C : String} {T : u_T} {N ci : Nat} {D : va_G} {cl : List vw_C} {tys : List (ClassId × FieldType)} {Ts : List Cond} (hts : ∀ w ∈ Ts, w.before args s = true) (hin : ∀ w ∈ u_ws C T N, w ∈ Ts) (ty : Nat → FieldType) (hty : ∀ k, k < N → parseFieldDescriptor (T k).2.2.1 = some (ty k)) (hnm : znm T N) (hK : va_K D cl tys s) (hc : cl[ci]? = some (C, T, N)) : ∀ x y, x < N → y < N → x ≠ y → (D.2 ci) x ≠ (D.2 ci) y := by
  intro x y hx hy hne
  obtain ⟨hS, -⟩ := hK.1 ci _ hc
  obtain ⟨_, _, _, fa, hia, ea⟩ := hS x hx
  obtain ⟨_, _, _, fb, hib, eb⟩ := hS y hy
  rw [← ea, ← eb]
  rcases hnm x hx y hy hne with h | ⟨h1, h2, h3⟩
  · refine u_apart (u_lays hts hin hx) (u_lays hts hin hy) hia hib ?_
    rw [(State.fieldFound?_type hia (hty x hx)).1, (State.fieldFound?_type hib (hty y hy)).1]
    exact h
  · have wx := hts _ (hin _ (u_in_lay hx))
    have wy := hts _ (hin _ (u_in_lay hy))
    unfold u_lay at wx wy
    rw [if_pos h2] at wx
    rw [if_pos h3] at wy
    obtain ⟨c, k, c1, k1, i1, f1, r1, r2, r3, -, -, -, r7, -, d, q1, q2, -, -⟩ := Cond.laysFinal_spec wx
    obtain ⟨c', k', c2, k2, i2, f2, p1, p2, p3, -, -, -, p7, -, d', s1, s2, -, -⟩ := Cond.laysFinal_spec wy
    cases r1.symm.trans p1
    cases hia.symm.trans r3
    cases hib.symm.trans p3
    intro hs
    rw [hs] at q1
    cases q1.symm.trans s1
    exact h1 ((zfc_name r7 (State.fieldFound?_class r3)).symm.trans ((q2.symm.trans s2).trans (zfc_name p7 (State.fieldFound?_class p3))))
theorem z_get (hX : zOK X E cc own ret nL) {ref C : String} {T : u_T} {N ci idx : Nat} {fs : List Value} {v : Value} (hc : zcl[ci]? = some (C, T, N)) (hin : ∀ w ∈ u_ws C T N, w ∈ lw_all) (k : Nat) (hk : k < N) (hlink : Cond.fieldLink own idx ref (T k).2.1 (T k).2.2.1 ∈ lw_all) (hsame : ref = (T k).1 ∨ Cond.sameField ref (T k).1 (T k).2.1 (T k).2.2.1 ∈ lw_all) (d : decode cc pc = .ok (.getfield idx, 3)) (ha : μ a = some (zob ci fs)) (hv : fs[k]? = some v) (kk : zW X R E μ ce sl Q (pc + 3) lv (v :: st)) : zW X R E μ ce sl Q pc lv (.ref a :: st) := fun H locs ls a1 a2 a3 =>
  va_get (D := zD E) (cl := zcl) hX.x hX.b hX.ts hin hX.o hX.k (a1.P ha) 0 rfl hc k hk (hX.t hlink) (zsame hX.ts hsame) hv d (kk H locs ls a1 a2 a3)
theorem z_getN (hX : zOK X E cc own ret nL) {ref C host : String} {T : u_T} {N ci idx : Nat} {fs : List Value} {v : Value} (hc : zcl[ci]? = some (C, T, N)) (hin : ∀ w ∈ u_ws C T N, w ∈ lw_all) (k : Nat) (hk : k < N) (hlink : Cond.fieldLinkNest own idx ref (T k).2.1 (T k).2.2.1 host ∈ lw_tbl) (hsame : ref = (T k).1 ∨ Cond.sameField ref (T k).1 (T k).2.1 (T k).2.2.1 ∈ lw_all) (d : decode cc pc = .ok (.getfield idx, 3)) (ha : μ a = some (zob ci fs)) (hv : fs[k]? = some v) (kk : zW X R E μ ce sl Q (pc + 3) lv (v :: st)) : zW X R E μ ce sl Q pc lv (.ref a :: st) := fun H locs ls a1 a2 a3 =>
  va_getN (D := zD E) (cl := zcl) hX.x hX.b hX.ts hin hX.o hX.k (a1.P ha) 0 rfl hc k hk (va_Nw.use rfl (hX.nw hlink rfl)) (zsame hX.ts hsame) hv d (kk H locs ls a1 a2 a3)
/-- a field is written: plain, final in a constructor, a nest mate's -/
theorem z_put (hX : zOK X E cc own ret nL) {ref C : String} {T : u_T} {N ci idx : Nat} {fs fs' : List Value} {v : Value} {ty : FieldType} (hc : zcl[ci]? = some (C, T, N)) (hin : ∀ w ∈ u_ws C T N, w ∈ lw_all) (ty0 : Nat → FieldType) (hty : ∀ k, k < N → parseFieldDescriptor (T k).2.2.1 = some (ty0 k)) (hnm : znm T N) (k : Nat) (hk : k < N) (hlink : Cond.fieldLink own idx ref (T k).2.1 (T k).2.2.1 ∈ lw_all) (hsame : ref = (T k).1 ∨ Cond.sameField ref (T k).1 (T k).2.1 (T k).2.2.1 ∈ lw_all) (hfin : (T k).2.2.2 = false) (hd : ty0 k = ty) (d : decode cc pc = .ok (.putfield idx, 3)) (ha : μ a = some (zob ci fs)) (hl : k < fs.length) (hn : narrow ty v = v) (hfit : fits ty v = true) (hfs : fs.set k v = fs') (kk : zW X R E (zu μ a (zob ci fs')) ce sl Q (pc + 3) lv st) : zW X R E μ ce sl Q pc lv (v :: .ref a :: st) := fun H locs ls a1 a2 a3 => by
  have hK := hX.k
  have hap := zapart hX.ts hin ty0 hty hnm hK hc
  obtain ⟨r, h1, cell, q1, q2, q3, q4⟩ := (a1 a _ ha).1
  have hr : r = (C, T, N) := Option.some.inj (h1.symm.trans hc)
  subst hr
  obtain ⟨hS, hfc, kC, hkC, hkind⟩ := hK.1 ci _ hc
  obtain ⟨cf, kf, fi, fd, hi, hsl⟩ := hS k hk
  have hlay := hX.ts _ (hin _ (u_in_lay hk))
  unfold u_lay at hlay
  rw [if_neg (by rw [hfin]; decide)] at hlay
  have hst := (u_facts hfc hkC (u_lays hX.ts hin hk) hi).1
  have h6 := u_store hfc hkC hkind hlay hi (hd ▸ hty k hk) hn hfit
  refine W.putK hX.x hX.b (f := fd) ⟨hX.o, hX.t hlink, ⟨_, _, _, zsame hX.ts hsame _ hi⟩, hst⟩ (by rw [q2]; exact h6) q1 q3 (by rw [hsl]; exact k2_hasslot (q4 k hk)) rfl rfl d fun H' e1 e2 e3 => ?_
  rw [hsl] at e1 ⊢
  exact kk H' _ ls (a1.put ha ⟨_, hc, t_OB.to (V := updV (vp_V fs) k v) ⟨_, e1, q2, q3, t_set q4 hap hk v⟩ (fun j _ => by rw [← hfs]; exact vp_updV_set hl v j)⟩ e3) (a2.put e2 e3 (a1 a _ ha).2) a3
theorem z_putN (hX : zOK X E cc own ret nL) {ref C host : String} {T : u_T} {N ci idx : Nat} {fs fs' : List Value} {v : Value} {ty : FieldType} (hc : zcl[ci]? = some (C, T, N)) (hin : ∀ w ∈ u_ws C T N, w ∈ lw_all) (ty0 : Nat → FieldType) (hty : ∀ k, k < N → parseFieldDescriptor (T k).2.2.1 = some (ty0 k)) (hnm : znm T N) (k : Nat) (hk : k < N) (hlink : Cond.fieldLinkNest own idx ref (T k).2.1 (T k).2.2.1 host ∈ lw_tbl) (hsame : ref = (T k).1 ∨ Cond.sameField ref (T k).1 (T k).2.1 (T k).2.2.1 ∈ lw_all) (hfin : (T k).2.2.2 = false) (hd : ty0 k = ty) (d : decode cc pc = .ok (.putfield idx, 3)) (ha : μ a = some (zob ci fs)) (hl : k < fs.length) (hn : narrow ty v = v) (hfit : fits ty v = true) (hfs : fs.set k v = fs') (kk : zW X R E (zu μ a (zob ci fs')) ce sl Q (pc + 3) lv st) : zW X R E μ ce sl Q pc lv (v :: .ref a :: st) := fun H locs ls a1 a2 a3 => by
  have hK := hX.k
  have hap := zapart hX.ts hin ty0 hty hnm hK hc
  obtain ⟨r, h1, cell, q1, q2, q3, q4⟩ := (a1 a _ ha).1
  have hr : r = (C, T, N) := Option.some.inj (h1.symm.trans hc)
  subst hr
  obtain ⟨hS, hfc, kC, hkC, hkind⟩ := hK.1 ci _ hc
  obtain ⟨cf, kf, fi, fd, hi, hsl⟩ := hS k hk
  have hlay := hX.ts _ (hin _ (u_in_lay hk))
  unfold u_lay at hlay
  rw [if_neg (by rw [hfin]; decide)] at hlay
  have hst := (u_facts hfc hkC (u_lays hX.ts hin hk) hi).1
  have h6 := u_store hfc hkC hkind hlay hi (hd ▸ hty k hk) hn hfit
  refine va_WputK hX.x hX.b (f := fd) hX.o (va_Nw.use rfl (hX.nw hlink rfl)) (zsame hX.ts hsame _ hi) hst (by rw [q2]; exact h6) q1 q3 (by rw [hsl]; exact k2_hasslot (q4 k hk)) rfl rfl d fun H' e1 e2 e3 => ?_
  rw [hsl] at e1 ⊢
  exact kk H' _ ls (a1.put ha ⟨_, hc, t_OB.to (V := updV (vp_V fs) k v) ⟨_, e1, q2, q3, t_set q4 hap hk v⟩ (fun j _ => by rw [← hfs]; exact vp_updV_set hl v j)⟩ e3) (a2.put e2 e3 (a1 a _ ha).2) a3
theorem z_putF (hX : zOK X E cc own ret nL) (hinit : (zXh X).name = "<init>") {ref C : String} {T : u_T} {N ci idx : Nat} {fs fs' : List Value} {v : Value} {ty : FieldType} (hc : zcl[ci]? = some (C, T, N)) (hin : ∀ w ∈ u_ws C T N, w ∈ lw_all) (ty0 : Nat → FieldType) (hty : ∀ k, k < N → parseFieldDescriptor (T k).2.2.1 = some (ty0 k)) (hnm : znm T N) (k : Nat) (hk : k < N) (hlink : Cond.fieldLink own idx ref (T k).2.1 (T k).2.2.1 ∈ lw_all) (hsame : ref = (T k).1 ∨ Cond.sameField ref (T k).1 (T k).2.1 (T k).2.2.1 ∈ lw_all) (hfin : (T k).2.2.2 = true) (hdecl : (T k).1 = own) (hd : ty0 k = ty) (d : decode cc pc = .ok (.putfield idx, 3)) (ha : μ a = some (zob ci fs)) (hl : k < fs.length) (hn : narrow ty v = v) (hfit : fits ty v = true) (hfs : fs.set k v = fs') (kk : zW X R E (zu μ a (zob ci fs')) ce sl Q (pc + 3) lv st) : zW X R E μ ce sl Q pc lv (v :: .ref a :: st) := fun H locs ls a1 a2 a3 => by
  have hK := hX.k
  have hap := zapart hX.ts hin ty0 hty hnm hK hc
  obtain ⟨r, h1, cell, q1, q2, q3, q4⟩ := (a1 a _ ha).1
  have hr : r = (C, T, N) := Option.some.inj (h1.symm.trans hc)
  subst hr
  obtain ⟨hS, hfc, kC, hkC, hkind⟩ := hK.1 ci _ hc
  obtain ⟨cf, kf, fi, fd, hi, hsl⟩ := hS k hk
  have hlay := hX.ts _ (hin _ (u_in_lay hk))
  unfold u_lay at hlay
  rw [if_pos hfin] at hlay
  have hst := (u_facts hfc hkC (u_lays hX.ts hin hk) hi).1
  have hcf : (zXm X).cls = cf := by
    obtain ⟨_, _, c', _, _, _, -, -, hf', -, -, -, hown2, -⟩ := Cond.laysFinal_spec hlay
    have e1 : c' = cf := by have := hi.symm.trans hf'; simp at this; exact this.1.symm
    rw [hdecl] at hown2
    rw [← e1]; exact Option.some.inj (hX.o.symm.trans hown2)
  have h6 := u_fits hfc hkC hkind (Or.inr hlay) hi (hd ▸ hty k hk) hn hfit
  refine W.putFinK hX.x hX.b hX.o (hX.t hlink) (zsame hX.ts hsame _ hi) hst hcf hinit (by rw [q2]; exact h6) q1 q3 (by rw [hsl]; exact k2_hasslot (q4 k hk)) rfl rfl d fun H' e1 e2 e3 => ?_
  rw [hsl] at e1 ⊢
  exact kk H' _ ls (a1.put ha ⟨_, hc, t_OB.to (V := updV (vp_V fs) k v) ⟨_, e1, q2, q3, t_set q4 hap hk v⟩ (fun j _ => by rw [← hfs]; exact vp_updV_set hl v j)⟩ e3) (a2.put e2 e3 (a1 a _ ha).2) a3

theorem z_iaload (hX : zOK X E cc own ret nL) (d : decode cc pc = .ok (.iaload, 1)) (ha : μ a = some (zai E n f)) (hi : 0 ≤ i ∧ i < (n : Int) ∧ n ≤ 2147483647) (kk : zW X R E μ ce sl Q (pc + 1) lv (.int (zI (f i)) :: st)) : zW X R E μ ce sl Q pc lv (.int (zI i) :: .ref a :: st) := fun H locs ls a1 a2 a3 => va_iald (D := zD E) (cl := zcl) hX.x hX.b hX.k (a1.P ha) 0 0 rfl rfl (zI_in hi) d (by
  show W _ _ _ _ _ _ _ _ _ _ _ _ _ _ _ (F0 _ _ _ (.int (zI (f (((zI i).toNatClampNeg : Nat) : Int))) :: st))
  rw [zI_cl (by omega)]
  exact kk H locs ls a1 a2 a3)
theorem z_baload (hX : zOK X E cc own ret nL) (d : decode cc pc = .ok (.baload, 1)) (ha : μ a = some (zab E n f)) (hi : 0 ≤ i ∧ i < (n : Int) ∧ n ≤ 2147483647) (kk : zW X R E μ ce sl Q (pc + 1) lv (.int (zI (f i)) :: st)) : zW X R E μ ce sl Q pc lv (.int (zI i) :: .ref a :: st) := fun H locs ls a1 a2 a3 => va_bald (D := zD E) (cl := zcl) hX.x hX.b hX.k (a1.P ha) 0 2 rfl rfl (zI_in hi) d (by
  show W _ _ _ _ _ _ _ _ _ _ _ _ _ _ _ (F0 _ _ _ (.int (zI (f (((zI i).toNatClampNeg : Nat) : Int))) :: st))
  rw [zI_cl (by omega)]
  exact kk H locs ls a1 a2 a3)
theorem z_laload (hX : zOK X E cc own ret nL) (d : decode cc pc = .ok (.laload, 1)) (ha : μ a = some (zaj E n f)) (hi : 0 ≤ i ∧ i < (n : Int) ∧ n ≤ 2147483647) (kk : zW X R E μ ce sl Q (pc + 1) lv (.long (zJ (f i)) :: st)) : zW X R E μ ce sl Q pc lv (.int (zI i) :: .ref a :: st) := fun H locs ls a1 a2 a3 => va_lald (D := zD E) (cl := zcl) hX.x hX.b hX.k (a1.P ha) 0 1 rfl rfl (zI_in hi) d (by
  show W _ _ _ _ _ _ _ _ _ _ _ _ _ _ _ (F0 _ _ _ (.long (zJ (f (((zI i).toNatClampNeg : Nat) : Int))) :: st))
  rw [zI_cl (by omega)]
  exact kk H locs ls a1 a2 a3)
theorem z_aaload (hX : zOK X E cc own ret nL) (t : Nat) {C : String} {g : Int → Option Nat} (ht : (ztys E)[t]? = some (zk E t, .object C)) (d : decode cc pc = .ok (.aaload, 1)) (ha : μ a = some (zaq E t n g)) (hi : 0 ≤ i ∧ i < (n : Int) ∧ n ≤ 2147483647) (kk : zW X R E μ ce sl Q (pc + 1) lv (va_rf (g i) :: st)) : zW X R E μ ce sl Q pc lv (.int (zI i) :: .ref a :: st) := fun H locs ls a1 a2 a3 => va_aldq (D := zD E) (cl := zcl) hX.x hX.b hX.k (a1.P ha) 0 t rfl ht (zI_in hi) d (by
  show W _ _ _ _ _ _ _ _ _ _ _ _ _ _ _ (F0 _ _ _ (va_rf (g (((zI i).toNatClampNeg : Nat) : Int)) :: st))
  rw [zI_cl (by omega)]
  exact kk H locs ls a1 a2 a3)
theorem z_iastore (hX : zOK X E cc own ret nL) (d : decode cc pc = .ok (.iastore, 1)) (ha : μ a = some (zai E n f)) (hi : 0 ≤ i ∧ i < (n : Int) ∧ n ≤ 2147483647) (kk : zW X R E (zu μ a (zai E n (zf f i x))) ce sl Q (pc + 1) lv st) : zW X R E μ ce sl Q pc lv (.int (zI x) :: .int (zI i) :: .ref a :: st) := fun H locs ls a1 a2 a3 => by
  refine W.iast hX.x hX.b (a1 a _ ha).1 ((hX.k.2 0 _ rfl).1 n (fun j => .int (zI (f j)))) (fun q => by cases q) (by show ¬ (zI i < 0 ∨ (arrV _ _ _).slots.size ≤ _); rw [arrV_size]; exact zI_in hi) rfl rfl d fun H1 e z oq => ?_
  refine kk H1 _ ls (a1.put ha ?_ oq) (a2.put z oq (a1 a _ ha).2) a3
  show H1[a]? = some (vp_cell _ _)
  rw [e]
  rw [vp_cell_i, vp_cell_i, arrV_store]
  congr 2
  funext q
  by_cases hq : q = (zI i).toNatClampNeg
  · have h2 := (zI_ix hi q).mp hq
    simp [updV, zf, hq, zI_cl (show 0 ≤ i ∧ i ≤ 2147483647 by omega)]
  · have h2 : ¬ ((q : Int) = i) := fun h => hq ((zI_ix hi q).mpr h)
    simp [updV, zf, hq, h2]
theorem z_lastore (hX : zOK X E cc own ret nL) (d : decode cc pc = .ok (.lastore, 1)) (ha : μ a = some (zaj E n f)) (hi : 0 ≤ i ∧ i < (n : Int) ∧ n ≤ 2147483647) (kk : zW X R E (zu μ a (zaj E n (zf f i x))) ce sl Q (pc + 1) lv st) : zW X R E μ ce sl Q pc lv (.long (zJ x) :: .int (zI i) :: .ref a :: st) := fun H locs ls a1 a2 a3 => by
  refine W.last hX.x hX.b (a1 a _ ha).1 ((hX.k.2 1 _ rfl).1 n (fun j => .long (zJ (f j)))) (fun q => by cases q) (by show ¬ (zI i < 0 ∨ (arrV _ _ _).slots.size ≤ _); rw [arrV_size]; exact zI_in hi) rfl rfl d fun H1 e z oq => ?_
  refine kk H1 _ ls (a1.put ha ?_ oq) (a2.put z oq (a1 a _ ha).2) a3
  show H1[a]? = some (vp_cell _ _)
  rw [e]
  rw [vp_cell_l, vp_cell_l, arrV_store]
  congr 2
  funext q
  by_cases hq : q = (zI i).toNatClampNeg
  · have h2 := (zI_ix hi q).mp hq
    simp [updV, zf, hq, zI_cl (show 0 ≤ i ∧ i ≤ 2147483647 by omega)]
  · have h2 : ¬ ((q : Int) = i) := fun h => hq ((zI_ix hi q).mpr h)
    simp [updV, zf, hq, h2]
theorem z_arraylength (hX : zOK X E cc own ret nL) {cA : ClassId} {y : vp_A} {t0 : Nat} {ty : FieldType} (d : decode cc pc = .ok (.arraylength, 1)) (ha : μ a = some (.inl (cA, y))) (ht : (ztys E)[t0]? = some (cA, ty)) (kk : zW X R E μ ce sl Q (pc + 1) lv (.int (zI y.1) :: st)) : zW X R E μ ce sl Q pc lv (.ref a :: st) := fun H locs ls a1 a2 a3 => va_alen (D := zD E) (cl := zcl) (v := zI y.1) hX.x hX.b hX.k (a1.P ha) 0 t0 rfl ht (by show Int32.ofNat _ = Int32.ofInt _; apply Int32.toBitVec_inj.mp; simp [Int32.ofNat, Int32.ofInt]) d (kk H locs ls a1 a2 a3)
end ZHEAP
theorem zn_X0 : znm TX0 8 := by unfold znm; decide +kernel
theorem zn_X1 : znm TX1 39 := by unfold znm; decide +kernel
theorem zn_X2 : znm TX2 7 := by unfold znm; decide +kernel
theorem zn_X3 : znm TX3 3 := by unfold znm; decide +kernel
theorem zn_X4 : znm TX4 7 := by unfold znm; decide +kernel
theorem zn_X5 : znm TX5 2 := by unfold znm; decide +kernel
theorem zn_X6 : znm TX6 4 := by unfold znm; decide +kernel
theorem zn_X9 : znm TX9 10 := by unfold znm; decide +kernel
theorem zn_X10 : znm TX10 2 := by unfold znm; decide +kernel
theorem zn_X11 : znm TX11 9 := by unfold znm; decide +kernel
theorem zn_X12 : znm TX12 9 := by unfold znm; decide +kernel
theorem zn_X13 : znm TX13 9 := by unfold znm; decide +kernel
theorem zn_X14 : znm TX14 5 := by unfold znm; decide +kernel
theorem zn_X15 : znm TX15 2 := by unfold znm; decide +kernel
theorem zn_X16 : znm TX16 2 := by unfold znm; decide +kernel
theorem zn_X17 : znm TX17 11 := by unfold znm; decide +kernel
theorem zn_X18 : znm TX18 8 := by unfold znm; decide +kernel
theorem zn_J2 : znm TJ2 3 := by unfold znm; decide +kernel
theorem zn_J4 : znm TJ4 4 := by unfold znm; decide +kernel
theorem zn_J5 : znm TJ5 3 := by unfold znm; decide +kernel
-- ZKIT-END
