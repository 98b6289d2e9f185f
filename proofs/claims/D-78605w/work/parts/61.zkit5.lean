/-! Z-KIT, fifth part: calls of inherited, overriding, abstract and private members -/
set_option maxRecDepth 100000
theorem lw_U {own : String} {idx : Nat} {C owner : String} {x y : MethodName} {b : ByteArray} {L : Nat} {r : Option FieldType} (h1 : Cond.methodLink own idx x ∈ lw_all) (h2 : Cond.sameMethod x.cls owner x.name x.desc ∈ lw_all) (h3 : Cond.selects C x y ∈ lw_all) (h4 : Cond.instanceMethod y ∈ lw_all) (h5 : Cond.initialized y.cls ∈ lw_all) (h6 : Cond.code y b L r ∈ lw_all) : GoodIn lw_all (va_wsU own idx C owner x y (ws_ y b L r)) := by
  refine lw_app ?_ (lw_meth h6)
  intro w hw
  simp only [List.mem_cons, List.not_mem_nil, or_false] at hw
  rcases hw with e | e | e | e | e
  · rw [e]; exact h1
  · rw [e]; exact h2
  · rw [e]; exact h3
  · rw [e]; exact h4
  · rw [e]; exact h5
/-- a private member is selected for whatever class of object -/
theorem zselP {C : String} {x' y' y : MethodName} {s : State} {args : Array Value} (h0 : (Cond.selects C x' y').before args s = true) (hcls : y'.cls = y.cls) (hy : y.cls ≠ "java/lang/invoke/MethodHandle" ∧ y.cls ≠ "java/lang/invoke/VarHandle") (hpriv : (Cond.privateMethod y).before args s = true) (hinst : (Cond.instanceMethod y).before args s = true) : (Cond.selects C y y).before args s = true := by
  obtain ⟨c, r, m, q1, q2, q3, q4, k, q5, q6⟩ := Cond.selects_spec h0
  obtain ⟨mk, methM, hnamed, hmethM, -, -⟩ := Cond.instanceMethod_spec hinst
  have hfound : s.methodFound? y.cls y.name y.desc = some mk := State.methodFound?_of_named hnamed hy
  have hc1 := findClass_of_methodNamed hnamed
  have hc2 := findClass_of_methodNamed q3
  rw [hcls] at hc2
  have hcls2 : mk.cls = m.cls := Option.some.inj (hc1.symm.trans hc2)
  have hsel : selectMethod {} s.vm c mk = .method mk := selectMethod_private hmethM (Cond.privateMethod_at hpriv mk methM hnamed hmethM)
  simp only [Cond.before, Cond.holds, Cond.value, q1, hfound, hnamed, hsel, hcls2, q5]
  simp
  exact q6
theorem va_cwUP {R : Room} {s : State} {args : Array Value} {own C owner : String} {index maxL mc ms : Nat} {x y : MethodName} {bytes : ByteArray} {ret : Option FieldType} {ws' : List Cond} {rm : Room} (n : Nat) (ht : ∀ w ∈ lw_all, w.before args s = true) (hs : (Cond.selects C x y).before args s = true) (h1 : Cond.methodLink own index x ∈ lw_all) (h2 : Cond.sameMethod x.cls owner x.name x.desc ∈ lw_all) (h4 : Cond.instanceMethod y ∈ lw_all) (h5 : Cond.initialized y.cls ∈ lw_all) (h6 : Cond.code y bytes maxL ret ∈ lw_all) (hw : ws_ y bytes maxL ret = Cond.code y bytes maxL ret :: ws') (hrc : rm.cells = mc) (hrs : rm.slots = ms)
    (hyx : y = ⟨owner, x.name, x.desc⟩) (hd : owner ≠ "java/lang/invoke/MethodHandle" ∧ owner ≠ "java/lang/invoke/VarHandle" ∧ (parseMethodDescriptor x.desc).map (fun d => d.parameters.length) = some n) (hR : rm.frames + 1 ≤ R.frames ∧ 8 + (maxL + 11) + rm.locals ≤ R.locals) : va_CU R s args own C owner index x y bytes maxL ret (ws_ y bytes maxL ret) rm mc ms n := by
  refine va_cwU n (Ts := Cond.selects C x y :: lw_all) ?_ ?_ hw hrc hrs hyx hd hR
  · intro w hw
    rcases List.mem_cons.mp hw with e | e
    · rw [e]; exact hs
    · exact ht w e
  · intro w hw
    have up : ∀ w, w ∈ lw_all → w ∈ Cond.selects C x y :: lw_all := fun w h => List.mem_cons_of_mem _ h
    rcases List.mem_append.mp hw with h | h
    · simp only [List.mem_cons, List.not_mem_nil, or_false] at h
      rcases h with e | e | e | e | e
      · rw [e]; exact ⟨up _ h1, (lw_self _ h1).2⟩
      · rw [e]; exact ⟨up _ h2, (lw_self _ h2).2⟩
      · rw [e]; exact ⟨List.mem_cons_self, good_of_word rfl⟩
      · rw [e]; exact ⟨up _ h4, (lw_self _ h4).2⟩
      · rw [e]; exact ⟨up _ h5, (lw_self _ h5).2⟩
    · exact ⟨up _ (lw_meth h6 w h).1, (lw_meth h6 w h).2⟩
/-- everything old is kept -/
def zKp (μ μ' : zM) : Prop := ∀ q e, μ q = some e → μ' q = some e
theorem zKp.rf (μ : zM) : zKp μ μ := fun _ _ h => h
theorem zKp.tr {a b c : zM} (h : zKp a b) (k : zKp b c) : zKp a c := fun q e hq => k q e (h q e hq)
theorem zKp.new {μ : zM} {a : Nat} (h : μ a = none) (e : va_E) : zKp μ (zu μ a e) := fun q x hq => zu_o (fun h' => by rw [h', h] at hq; cases hq) hq
theorem zKp.nu {μ μ' : zM} (k : zKp μ μ') {a : Nat} (h : μ a = none) (e : va_E) : zKp μ (zu μ' a e) := fun q x hq => zu_o (fun h' => by rw [h', h] at hq; cases hq) (k q x hq)
theorem zKp.no {μ μ' : zM} (k : zKp μ μ') {a : Nat} (h : μ' a = none) : μ a = none := by
  cases hx : μ a with
  | none => rfl
  | some e => rw [k a e hx] at h; cases h
/-- everything old is kept but what lies at ws -/
def zKx (ws : List Nat) (μ μ' : zM) : Prop := ∀ q e, μ q = some e → q ∉ ws → μ' q = some e
theorem zKx.rf (ws : List Nat) (μ : zM) : zKx ws μ μ := fun _ _ h _ => h
theorem zKx.tr {ws : List Nat} {a b c : zM} (h : zKx ws a b) (k : zKx ws b c) : zKx ws a c := fun q e hq hn => k q e (h q e hq hn) hn
theorem zKp.x {μ μ' : zM} (h : zKp μ μ') (ws : List Nat) : zKx ws μ μ' := fun q e hq _ => h q e hq
theorem zKx.mono {ws vs : List Nat} {μ μ' : zM} (h : zKx ws μ μ') (hs : ∀ q ∈ ws, q ∈ vs) : zKx vs μ μ' := fun q e hq hn => h q e hq (fun h => hn (hs q h))
theorem zKx.put {ws : List Nat} {μ μ' : zM} (h : zKx ws μ μ') {a : Nat} (ha : a ∈ ws) (e : va_E) : zKx ws μ (zu μ' a e) := fun q x hq hn => zu_o (fun h' => hn (h' ▸ ha)) (h q x hq hn)
theorem zKx.nu {ws : List Nat} {μ μ' : zM} (k : zKx ws μ μ') {a : Nat} (h : μ a = none) (e : va_E) : zKx ws μ (zu μ' a e) := fun q x hq hn => zu_o (fun h' => by rw [h', h] at hq; cases hq) (k q x hq hn)
theorem zKx.p {μ μ' : zM} (h : zKx [] μ μ') : zKp μ μ' := fun q e hq => h q e hq List.not_mem_nil
/-- a list's elements, the element being known -/
theorem AL.mono {E : zE} {μ μ' : zM} {L arr c : Nat} {rs : List Nat} (h : AL E μ L arr c rs) (k : zKp μ μ') : AL E μ' L arr c rs := by
  obtain ⟨mod, g, a1, a2, a3⟩ := h
  exact ⟨mod, g, k _ _ a1, k _ _ a2, a3⟩
theorem AL.monox {E : zE} {μ μ' : zM} {L arr c : Nat} {rs : List Nat} {ws : List Nat} (h : AL E μ L arr c rs) (k : zKx ws μ μ') (h1 : L ∉ ws) (h2 : arr ∉ ws) : AL E μ' L arr c rs := by
  obtain ⟨mod, g, a1, a2, a3⟩ := h
  exact ⟨mod, g, k _ _ a1 h1, k _ _ a2 h2, a3⟩
theorem AL.at {E : zE} {μ : zM} {L arr c : Nat} {rs : List Nat} (h : AL E μ L arr c rs) : μ L = some (zal (Classical.choose h) arr rs.length) := (Classical.choose_spec (Classical.choose_spec h)).1
theorem LL.at {μ : zM} {L : Nat} {lo hi : Int} {ad it : Int → Nat} (h : LL μ L lo hi ad it) : μ L = some (zll (Classical.choose h) (hi - lo) (if lo < hi then some (ad lo) else none) (if lo < hi then some (ad (hi - 1)) else none)) := (Classical.choose_spec h).1
theorem x_getR (l : Launch) (E : zE) {μ : zM} {L arr c : Nat} {rs : List Nat} (h : AL E μ L arr c rs) {i : Int} {r : Nat} (h0 : 0 ≤ i) (hr : rs[i.toNat]? = some r) : Met l yJ2_get (ws_ yJ2_get cJ2_get 2 (some (.object "java/lang/Object"))) (zR 2 0 0) (va_Pc [.ref L, .int (zI i)] (zPre E μ)) (zQq E (fun r' μ' => μ = μ' ∧ some r = r')) 0 0 (zA E) := by
  have hi : i.toNat < rs.length := (List.getElem?_eq_some_iff.mp hr).1
  have h1 := x_get l E h hi
  rw [show ((i.toNat : Nat) : Int) = i by omega] at h1
  exact zmono_q h1 (fun r' μ' q => ⟨q.1, by rw [← q.2, hr]⟩)
