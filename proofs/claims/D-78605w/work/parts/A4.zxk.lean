/-! Z-KIT, seventh part: methods that throw a TextFault -/
set_option maxRecDepth 100000
theorem zthr {s : State} {E : zE} {μ : zM} {H : Heap} {q ci : Nat} {fs : List Value} {C : String} {T : u_T} {N : Nat} (hK : va_K (zD E) zcl (ztys E) s) (h : zh E μ H) (hq : μ q = some (zob ci fs)) (hc : zcl[ci]? = some (C, T, N)) : ∃ cell : Cell, H[q]? = some cell ∧ cell.vm = .none ∧ s.vm.findClass C = some cell.cls := by
  obtain ⟨q', h1, cell, g1, g2, g3, -⟩ := h.P hq 0 _ rfl
  exact ⟨cell, g1, g3, by rw [g2]; exact (hK.1 ci _ hc).2.1⟩
/-- what is said of a throw: the class, the thrown object, the world -/
def zyX (E : zE) (px : Nat → zM → Prop) : String → Addr → State → State → Prop := zy_X (S := zM) (fun _ => True) (fun Ex q u t => Ex = RX4 ∧ px q u ∧ zPre E u t) (zA E)
/-- a method that returns or throws -/
abbrev zyMet (l : Launch) (y : MethodName) (ws : List Cond) (rm : Room) (Pc : Array Value → State → Prop) (Qc : Array Value → State → Outcome → State → Prop) (E : zE) (px : Nat → zM → Prop) (mc ms : Nat) : Prop := zy_Met l y ws rm Pc Qc (zyX E px) mc ms (zA E)
/-- q thrown over the frame -/
def zyW (X : zX) (R : Room) (E : zE) (μ : zM) (ce sl : Nat) (Q : State → Prop) (pc : Nat) (lv : List (Option Value)) (q : Nat) : Prop :=
  ∀ (H : Heap) (locs : List Loc) (ls : Array Slot) (rest : List Value), zh E μ H → va_S (zA E) (zXs X).heap H locs → zL ls lv → zy_W (zXp X) (zXl X) (zXe X) R (zXs X) (zXm X) (zXa X) (zXb X) (zXh X) (zXc X) H locs ce sl Q (F0 (zXm X) pc ls rest) q
def zyMQ (X : zX) (Qc : Array Value → State → Outcome → State → Prop) (E : zE) (px : Nat → zM → Prop) (mc ms : Nat) : State → Prop := zy_MQ (zXb X) Qc (zyX E px) (zXa X) (zXs X) mc ms (zA E)
theorem zymet {l : Launch} {y : MethodName} {cc : ByteArray} {nL k mc ms : Nat} {ret : Option FieldType} {E : zE} {av : List Value} {μ : zM} {Qc : Array Value → State → Outcome → State → Prop} {px : Nat → zM → Prop} (lv : List (Option Value)) (hy : plainName y.cls = true) (h0 : (lg_sl av).length ≤ nL) (hl : zargs av ++ List.replicate (nL - (zargs av).length) none = lv) (hn : lv.length = nL)
    (body : ∀ X : zX, zXl X = l → zOK X E cc y.cls ret nL → (∀ x ∈ (zXc X).exceptionTable.toList, False) → zW X (zR k mc ms) E μ 0 0 (zyMQ X Qc E px mc ms) 0 lv []) : zyMet l y (ws_ y cc nL ret) (zR k mc ms) (va_Pc av (zPre E μ)) Qc E px mc ms := by
  refine zy_ofW (cc := cc) (maxL := nL) (ret := ret) hy rfl ?_
  intro p e s m args below meth c s₁ B hml ht hv
  obtain ⟨rfl, hp1, hp2, hp3, hp4, hp5⟩ := hv
  have hts := atoms_spec (ws := ws_ y cc nL ret) B.pre
  have hts : ∀ w ∈ lw_all, w.before av.toArray s = true := fun w h => hts w (List.mem_cons_of_mem _ h)
  have hX : zOK (p, l, e, s, m, av.toArray, below, meth, c) E cc y.cls ret nL := ⟨B.exec, B.bytes, findClass_of_methodNamed B.named, hts, hp1, hp2, hp3, B.notSynchronized, hp4, B.returns, hml⟩
  rw [lg_entry_eq]
  exact body (p, l, e, s, m, av.toArray, below, meth, c) rfl hX ht s.heap [] _ hp5 va_S.rf (zargs_L h0 hl hn)
section ZNEWX
variable {X : zX} {E : zE} {μ : zM} {ce sl k mc ms MC MS : Nat} {Q : State → Prop} {pc : Nat} {lv : List (Option Value)} {st : List Value} {cc : ByteArray} {own : String} {ret : Option FieldType} {nL : Nat} {a : Nat} {R : Room} {px : Nat → zM → Prop} {Qc : Array Value → State → Outcome → State → Prop}
/-- the end of a body that may throw -/
theorem zyret (kk : zW X R E μ ce sl (MQ (zXb X) Qc (zXa X) (zXs X) MC MS (zA E)) pc lv st) : zW X R E μ ce sl (zyMQ X Qc E px MC MS) pc lv st := fun H locs ls a1 a2 a3 => zy_ret (kk H locs ls a1 a2 a3)
theorem z_athrow (hX : zOK X E cc own ret nL) {q : Nat} (d : decode cc pc = .ok (.athrow, 1)) (kk : zyW X R E μ ce sl Q pc lv q) : zW X R E μ ce sl Q pc lv (.ref q :: st) := fun H locs ls a1 a2 a3 => zy_athrow hX.x hX.b d (kk H locs ls st a1 a2 a3)
/-- it leaves the method -/
theorem zyout (hX : zOK X E cc own ret nL) (ht : ∀ x ∈ (zXc X).exceptionTable.toList, False) {q : Nat} {fs : List Value} (hq : μ q = some (zob 4 fs)) (hp : px q μ) (h1 : ce ≤ MC) (h2 : sl ≤ MS) : zyW X R E μ ce sl (zyMQ X Qc E px MC MS) pc lv q := fun H locs ls rest a1 a2 a3 => by
  obtain ⟨cell, g1, g2, g3⟩ := zthr hX.k a1 hq (C := RX4) (T := TX4) (N := 7) rfl
  exact zy_out (E := RX4) (fun x hx => (ht x hx).elim) hX.lk g1 g2 g3 (fun t e hW => ⟨μ, trivial, ⟨rfl, hp, hX.pre a2 a1 e hW⟩, a2.F e⟩) a2.2.2 h1 h2
/-- it is caught by the only handler -/
theorem zycatch (hX : zOK X E cc own ret nL) {q : Nat} {fs : List Value} (x : ExceptionTableEntry) (ht : (zXc X).exceptionTable.toList = [x]) (hx : covers x pc = true) (h0 : x.catchType ≠ 0) (hl : Cond.classLink own x.catchType RX4 ∈ lw_all) (hca : (Cond.castable RX4 RX4).before (zXa X) (zXs X) = true) (hq : μ q = some (zob 4 fs)) (kk : zW X R E μ ce sl Q x.handlerPc lv [.ref q]) : zyW X R E μ ce sl Q pc lv q := fun H locs ls rest a1 a2 a3 => by
  obtain ⟨cell, g1, g2, g3⟩ := zthr hX.k a1 hq (C := RX4) (T := TX4) (N := 7) rfl
  exact zy_catch (E := RX4) hX.o [] x [] ht (fun z hz => nomatch hz) hx h0 (hX.t hl) hca g1 g2 g3 (kk H locs ls a1 a2 a3)
/-- a call of a method that may throw -/
def zyRun (X : zX) (R : Room) (E : zE) (μ : zM) (lv : List (Option Value)) (ce sl mc ms pc : Nat) (st rest : List Value) (Qa : State → Outcome → State → Prop) (px : Nat → zM → Prop) : Prop := ∀ (H : Heap) (locs : List Loc) (ls : Array Slot), zh E μ H → va_S (zA E) (zXs X).heap H locs → zL ls lv → zy_Run (zXp X) (zXl X) (zXe X) R (zXs X) (zXm X) (zXa X) (zXb X) (zXh X) (zXc X) H locs ce sl mc ms (F0 (zXm X) pc ls st) rest Qa (zyX E px) (zA E)
variable {y : MethodName} {bytes : ByteArray} {maxL n idx : Nat} {rt : Option FieldType} {ws : List Cond} {rm : Room} {C : String} {T : u_T} {N ci b : Nat} {fs As rest : List Value}
theorem zy_rV (hX : zOK X E cc own ret nL) (hM : zyMet (zXl X) y ws rm (va_Pc (.ref b :: As) (zPre E μ)) Qc E px mc ms) (cw : CallW R (zXs X) (zXa X) own C idx y bytes maxL rt ws rm mc ms n) (d : decode cc pc = .ok (.invokevirtual idx, 3)) (hrv : μ b = some (zob ci fs)) (hc : zcl[ci]? = some (C, T, N)) (hn : As.length = n) (hlv : lv.length = nL) (hst : st = As.reverse ++ .ref b :: rest) (hW : (rest.map fun v => v.category).sum ≤ 8) (hf : ce + mc ≤ R.cells ∧ sl + ms ≤ R.slots) : zyRun X R E μ lv ce sl mc ms pc st rest (Qc (.ref b :: As).toArray) px := fun H locs ls a1 a2 a3 =>
  zy_runV hX.fix hM cw ⟨zblind, va_recv hX.k (a1.P hrv) hc (q0 := 0) rfl, fun U hU hW9 => ⟨rfl, hX.pre a2 a1 hU hW9⟩⟩ rfl hn (a3.1.trans hlv) hst (lv_room hW) d hf
theorem zy_ci {post : Int → zM → Prop} {av : Array Value} (hr : zyRun X R E μ lv ce sl mc ms pc st rest (zQi E post av) px) (kx : ∀ (q : Nat) (μ' : zM), px q μ' → zyW X R E μ' (ce + mc) (sl + ms) Q pc lv q) (kk : ∀ (r : Int) (μ' : zM), post r μ' → zW X R E μ' (ce + mc) (sl + ms) Q (pc + 3) lv (.int (zI r) :: rest)) : zW X R E μ ce sl Q pc lv st := fun H locs ls a1 a2 a3 => zy_calli (hr H locs ls a1 a2 a3) a2 (fun _ _ h => h) (fun _ h => h) (fun _ _ h => h) (fun Ex ce' q u t H1 locs1 ht hvm _ hp hz hk hS _ _ _ => by
  obtain ⟨-, hp, hB⟩ := hp
  exact kx q u hp H1 locs1 ls rest (by rw [← ht]; exact hB.2.2.2.2) hS a3) (fun r u t H1 locs1 ht hvm hp hB hz hk hS => by
  obtain ⟨e, hp⟩ := hp
  subst e
  exact kk u.1 u.2 hp H1 locs1 ls (by rw [← ht]; exact hB.2.2.2.2) hS a3)
theorem zy_cv {post : zM → Prop} {av : Array Value} (hr : zyRun X R E μ lv ce sl mc ms pc st rest (zQv E post av) px) (kx : ∀ (q : Nat) (μ' : zM), px q μ' → zyW X R E μ' (ce + mc) (sl + ms) Q pc lv q) (kk : ∀ (μ' : zM), post μ' → zW X R E μ' (ce + mc) (sl + ms) Q (pc + 3) lv rest) : zW X R E μ ce sl Q pc lv st := fun H locs ls a1 a2 a3 => zy_callv (hr H locs ls a1 a2 a3) a2 (fun _ _ h => h) (fun _ h => h) (fun _ _ h => h) (fun Ex ce' q u t H1 locs1 ht hvm _ hp hz hk hS _ _ _ => by
  obtain ⟨-, hp, hB⟩ := hp
  exact kx q u hp H1 locs1 ls rest (by rw [← ht]; exact hB.2.2.2.2) hS a3) (fun u t H1 locs1 ht hvm hp hB hz hk hS => kk u hp H1 locs1 ls (by rw [← ht]; exact hB.2.2.2.2) hS a3)
theorem zy_cq {post : Option Nat → zM → Prop} {av : Array Value} (hr : zyRun X R E μ lv ce sl mc ms pc st rest (zQq E post av) px) (kx : ∀ (q : Nat) (μ' : zM), px q μ' → zyW X R E μ' (ce + mc) (sl + ms) Q pc lv q) (kk : ∀ (r : Option Nat) (μ' : zM), post r μ' → zW X R E μ' (ce + mc) (sl + ms) Q (pc + 3) lv (va_rf r :: rest)) : zW X R E μ ce sl Q pc lv st := fun H locs ls a1 a2 a3 => zy_callq (hr H locs ls a1 a2 a3) a2 (fun _ _ h => h) (fun _ h => h) (fun _ _ h => h) (fun Ex ce' q u t H1 locs1 ht hvm _ hp hz hk hS _ _ _ => by
  obtain ⟨-, hp, hB⟩ := hp
  exact kx q u hp H1 locs1 ls rest (by rw [← ht]; exact hB.2.2.2.2) hS a3) (fun r u t H1 locs1 ht hvm hp hB hz hk hS => kk r u hp H1 locs1 ls (by rw [← ht]; exact hB.2.2.2.2) hS a3)
end ZNEWX
