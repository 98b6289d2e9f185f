/-! Z-KIT 2: new cells, calls, starts and ends; own layer -/
set_option maxRecDepth 100000
def zQi (E : zE) (post : Int → zM → Prop) : Array Value → State → Outcome → State → Prop := va_Qi (S := Int × zM) (fun r u => r = zI u.1 ∧ post u.1 u.2) (fun u t => zPre E u.2 t) (zA E)
def zQl (E : zE) (post : Int → zM → Prop) : Array Value → State → Outcome → State → Prop := va_Ql (S := Int × zM) (fun r u => r = zJ u.1 ∧ post u.1 u.2) (fun u t => zPre E u.2 t) (zA E)
def zQb (E : zE) (post : Bool → zM → Prop) : Array Value → State → Outcome → State → Prop := va_Qi (S := Bool × zM) (fun r u => r = zI (zb u.1) ∧ post u.1 u.2) (fun u t => zPre E u.2 t) (zA E)
def zQv (E : zE) (post : zM → Prop) : Array Value → State → Outcome → State → Prop := va_Qv (S := zM) post (fun u t => zPre E u t) (zA E)
def zQq (E : zE) (post : Option Nat → zM → Prop) : Array Value → State → Outcome → State → Prop := va_Qq (S := zM) post (fun u t => zPre E u t) (zA E)
theorem zT.same {E : zE} {u U : State} (h : u.vm = U.vm) (hT : zT E u) : zT E U := by
  have hal : u.vm.Alike U.vm := by rw [h]; exact Vm.Alike.refl _
  refine ⟨fun w hw hk => ?_, va_AO.moved hal hT.2.1, va_AO.moved hal hT.2.2.1, va_Mi.moved hal hT.2.2.2.1, va_Mi.moved hal hT.2.2.2.2.1, va_Dc.moved hal hT.2.2.2.2.2.1, va_Fw.moved (by decide) hal hT.2.2.2.2.2.2.1, zGc.moved hal hT.2.2.2.2.2.1 hT.2.2.2.2.2.2.2⟩
  have h1 := hT.1 w hw hk
  cases w <;> first | exact va_Nw.same rfl h h1 | exact zNw_AA hal hk h1 | exact absurd hk (by simp [zkd])
theorem zblind {E : zE} {μ : zM} {av : List Value} : FrameBlind (va_Pc av (zPre E μ)) := by
  intro a U g mk q
  obtain ⟨q0, q1, q2, q3, q4, q5⟩ := q
  exact ⟨q0, va_K.moved (u := U) (U := U.calling g mk a) (Vm.Alike.refl U.vm) q1, zT.same (E := E) (u := U) (U := U.calling g mk a) rfl q2, ⟨va_Z.moved (u := U) (U := U.calling g mk a) (Vm.Alike.refl U.vm) q3.1, va_Z.moved (u := U) (U := U.calling g mk a) (Vm.Alike.refl U.vm) q3.2.1, va_Z.moved (u := U) (U := U.calling g mk a) (Vm.Alike.refl U.vm) q3.2.2.1, va_Z.moved (u := U) (U := U.calling g mk a) (Vm.Alike.refl U.vm) q3.2.2.2⟩, q4, q5⟩
theorem zroom {j k maxL mc ms MC MS : Nat} (h : j < k) (hm : maxL ≤ 180) : (zR j mc ms).frames + 1 ≤ (zR k MC MS).frames ∧ 8 + (maxL + 11) + (zR j mc ms).locals ≤ (zR k MC MS).locals := by
  show 20 * j + 1 ≤ 20 * k ∧ 8 + (maxL + 11) + 200 * j ≤ 200 * k
  omega
/-- the locals with which a method begins: a long's second place is not known -/
def zargs : List Value → List (Option Value)
  | [] => []
  | .long x :: vs => some (.long x) :: none :: zargs vs
  | .double x :: vs => some (.double x) :: none :: zargs vs
  | v :: vs => some v :: zargs vs
theorem zargs_in : ∀ (vs : List Value) (o i : Nat) (v : Value), (zargs vs)[i]? = some (some v) → (o + i, v) ∈ lv_args o vs
  | [], o, i, v, h => by simp [zargs] at h
  | w :: vs, o, i, v, h => by
    have one : ∀ (hc : ¬ w.category = 2), (some w :: zargs vs)[i]? = some (some v) → (o + i, v) ∈ lv_args o (w :: vs) := by
      intro hc h
      rw [lv_args, if_neg hc]
      cases i with
      | zero =>
        have : w = v := by simpa using h
        rw [this]; exact List.mem_cons_self
      | succ i =>
        refine List.mem_cons_of_mem _ ?_
        rw [show o + (i + 1) = o + 1 + i by omega]
        exact zargs_in vs (o + 1) i v (by simpa using h)
    have two : ∀ (hc : w.category = 2), (some w :: none :: zargs vs)[i]? = some (some v) → (o + i, v) ∈ lv_args o (w :: vs) := by
      intro hc h
      rw [lv_args, if_pos hc]
      match i, h with
      | 0, h =>
        have : w = v := by simpa using h
        rw [this]; exact List.mem_cons_self
      | 1, h => simp at h
      | i + 2, h =>
        refine List.mem_cons_of_mem _ ?_
        rw [show o + (i + 2) = o + 2 + i by omega]
        exact zargs_in vs (o + 2) i v (by simpa using h)
    cases w <;> first | exact one (by decide) h | exact two (by decide) h | exact one (by simp [Value.category]) h | exact two (by simp [Value.category]) h
theorem zargs_L {vs : List Value} {nL : Nat} {lv : List (Option Value)} (h : (lg_sl vs).length ≤ nL) (hl : zargs vs ++ List.replicate (nL - (zargs vs).length) none = lv) (hn : lv.length = nL) : zL ((lg_sl vs ++ List.replicate (nL - (lg_sl vs).length) Slot.unset).toArray) lv := by
  obtain ⟨h1, h2, h3⟩ := lv_entry vs h
  refine ⟨by rw [h1, hn], h2, fun i v hi => ?_⟩
  rw [← hl] at hi
  by_cases hlt : i < (zargs vs).length
  · rw [List.getElem?_append_left hlt] at hi
    have h5 := h3 _ (zargs_in vs 0 i v hi)
    rwa [Nat.zero_add] at h5
  · rw [List.getElem?_append_right (by omega), List.getElem?_replicate] at hi
    split at hi <;> simp at hi
/-- a contract out of a walk -/
theorem zmet {l : Launch} {y : MethodName} {cc : ByteArray} {nL k mc ms : Nat} {ret : Option FieldType} {E : zE} {av : List Value} {μ : zM} {Qc : Array Value → State → Outcome → State → Prop} (lv : List (Option Value)) (hy : plainName y.cls = true) (h0 : (lg_sl av).length ≤ nL) (hl : zargs av ++ List.replicate (nL - (zargs av).length) none = lv) (hn : lv.length = nL)
    (body : ∀ X : zX, zXl X = l → zOK X E cc y.cls ret nL → (zXh X).name = y.name → zW X (zR k mc ms) E μ 0 0 (MQ (zXb X) Qc (zXa X) (zXs X) mc ms (zA E)) 0 lv []) : Met l y (ws_ y cc nL ret) (zR k mc ms) (va_Pc av (zPre E μ)) Qc mc ms (zA E) := by
  refine Met.ofW (cc := cc) (maxL := nL) (ret := ret) hy rfl ?_
  intro p e s m args below meth c s₁ B hml hv
  obtain ⟨rfl, hp1, hp2, hp3, hp4, hp5⟩ := hv
  have hts := atoms_spec (ws := ws_ y cc nL ret) B.pre
  have hts : ∀ w ∈ lw_all, w.before av.toArray s = true := fun w h => hts w (List.mem_cons_of_mem _ h)
  have hX : zOK (p, l, e, s, m, av.toArray, below, meth, c) E cc y.cls ret nL := ⟨B.exec, B.bytes, findClass_of_methodNamed B.named, hts, hp1, hp2, hp3, B.notSynchronized, hp4, B.returns, hml⟩
  rw [lg_entry_eq]
  exact body (p, l, e, s, m, av.toArray, below, meth, c) rfl hX (name_of_methodNamed B.named B.method).1 s.heap [] _ hp5 va_S.rf (zargs_L h0 hl hn)
section ZNEW
variable {X : zX} {E : zE} {μ : zM} {ce sl k mc ms MC MS : Nat} {Q : State → Prop} {pc : Nat} {lv : List (Option Value)} {st : List Value} {cc : ByteArray} {own : String} {ret : Option FieldType} {nL : Nat} {a : Nat}
theorem z_ireturn (hX : zOK X E cc own (some .int) nL) {r : Int} {post : Int → zM → Prop} (d : decode cc pc = .ok (.ireturn, 1)) (h1 : ce ≤ MC) (h2 : sl ≤ MS) (hp : post r μ) : zW X (zR k MC MS) E μ ce sl (MQ (zXb X) (zQi E post) (zXa X) (zXs X) MC MS (zA E)) pc lv [.int (zI r)] := zW.widen h1 h2 fun H locs ls a1 a2 a3 => W.iret hX.x hX.b hX.r (fun t ht hW => ⟨⟨zI r, (r, μ), rfl, ⟨rfl, hp⟩, hX.pre a2 a1 ht hW⟩, a2.F ht⟩) a2.2.2 d hX.lk
theorem z_lreturn (hX : zOK X E cc own (some .long) nL) {r : Int} {post : Int → zM → Prop} (d : decode cc pc = .ok (.lreturn, 1)) (h1 : ce ≤ MC) (h2 : sl ≤ MS) (hp : post r μ) : zW X (zR k MC MS) E μ ce sl (MQ (zXb X) (zQl E post) (zXa X) (zXs X) MC MS (zA E)) pc lv [.long (zJ r)] := zW.widen h1 h2 fun H locs ls a1 a2 a3 => W.lret hX.x hX.b hX.r (fun t ht hW => ⟨⟨zJ r, (r, μ), rfl, ⟨rfl, hp⟩, hX.pre a2 a1 ht hW⟩, a2.F ht⟩) a2.2.2 d hX.lk
theorem z_breturn (hX : zOK X E cc own (some .boolean) nL) (r : Bool) {post : Bool → zM → Prop} (d : decode cc pc = .ok (.ireturn, 1)) (h1 : ce ≤ MC) (h2 : sl ≤ MS) (hp : post r μ) : zW X (zR k MC MS) E μ ce sl (MQ (zXb X) (zQb E post) (zXa X) (zXs X) MC MS (zA E)) pc lv [.int (zI (zb r))] := zW.widen h1 h2 fun H locs ls a1 a2 a3 => W.zret hX.x hX.b hX.r (by cases r <;> rfl) (fun t ht hW => ⟨⟨zI (zb r), (r, μ), rfl, ⟨rfl, hp⟩, hX.pre a2 a1 ht hW⟩, a2.F ht⟩) a2.2.2 d hX.lk
theorem z_return (hX : zOK X E cc own none nL) {post : zM → Prop} (d : decode cc pc = .ok (.return_, 1)) (h1 : ce ≤ MC) (h2 : sl ≤ MS) (hp : post μ) : zW X (zR k MC MS) E μ ce sl (MQ (zXb X) (zQv E post) (zXa X) (zXs X) MC MS (zA E)) pc lv [] := zW.widen h1 h2 fun H locs ls a1 a2 a3 => W.vret hX.x hX.b hX.r (fun t ht hW => ⟨⟨μ, rfl, hp, hX.pre a2 a1 ht hW⟩, a2.F ht⟩) a2.2.2 d hX.lk
theorem z_areturn (hX : zOK X E cc own ret nL) {rt : FieldType} (hr : ret = some rt) (hrt : (∃ n, rt = .object n) ∨ ∃ t, rt = .array t) {r : Option Nat} {post : Option Nat → zM → Prop} (d : decode cc pc = .ok (.areturn, 1)) (h1 : ce ≤ MC) (h2 : sl ≤ MS) (hp : post r μ) : zW X (zR k MC MS) E μ ce sl (MQ (zXb X) (zQq E post) (zXa X) (zXs X) MC MS (zA E)) pc lv [va_rf r] := zW.widen h1 h2 fun H locs ls a1 a2 a3 => W.aret hX.x hX.b (hX.r.trans hr) hrt (by cases r with | none => exact Or.inl rfl | some a => exact Or.inr ⟨a, rfl⟩) (fun t ht hW => ⟨⟨r, μ, rfl, hp, hX.pre a2 a1 ht hW⟩, a2.F ht⟩) a2.2.2 d hX.lk
/-- frames of a new cell -/
theorem va_S.new {A : Nat → Prop} {H0 H H1 : Heap} {locs : List Loc} (h : va_S A H0 H locs) (z : H1.size = H.size + 1) (o1 : ∀ q : Nat, q < H.size → H1[q]? = H[q]?) : va_S A H0 H1 locs := ⟨Nat.le_trans h.1 (by omega), fun x h1 h2 => (o1 x (Nat.lt_of_lt_of_le h1 h.1)).trans (h.2.1 x h1 h2), h.2.2⟩
theorem z_new (hX : zOK X E cc own ret nL) {C : String} {T : u_T} {N ci idx : Nat} (hc : zcl[ci]? = some (C, T, N)) (hin : ∀ w ∈ u_ws C T N, w ∈ lw_all) (ty : Nat → FieldType) (hty : ∀ k, k < N → parseFieldDescriptor (T k).2.2.1 = some (ty k)) (hcl : Cond.classLink own idx C ∈ lw_all) (hinst : Cond.instantiable C N ∈ lw_all) (hini : Cond.initialized C ∈ lw_all) (d : decode cc pc = .ok (.new idx, 3)) {fs : List Value} (hfs : ∀ j, j < N → defaultValue (ty j) = vp_V fs j) (hce : ce + 1 ≤ MC) (hsl : sl + N ≤ MS) (kk : ∀ q, μ q = none → zW X (zR k MC MS) E (zu μ q (zob ci fs)) (ce + 1) (sl + N) Q (pc + 3) lv (.ref q :: st)) : zW X (zR k MC MS) E μ ce sl Q pc lv st := fun H locs ls a1 a2 a3 => by
  have hKn := hX.k.1 ci _ hc
  refine W.newcK hX.x hX.b hX.o (hX.t hcl) (hX.t hinst) (hX.t hini) rfl d hce hsl hKn.2.1 rfl fun H1 kC hkC e1 z1 o1 => ?_
  obtain ⟨hz, hno⟩ := a1.new (e := zob ci fs) (H1 := H1) ⟨_, hc, (u_born ty hX.ts hin hKn hkC e1 hty).to hfs⟩ o1 (Nat.le_trans hX.n a2.1)
  exact kk H.size hno H1 locs ls hz (a2.new z1 o1) a3
theorem zcls {E : zE} {U : State} {t : Nat} {ty : FieldType} {c : ClassId} (hK : va_K (zD E) zcl (ztys E) U) (ht : (ztys E)[t]? = some (zk E t, ty)) (hf : U.vm.findClass ("[" ++ ty.toString) = some c) : c = zk E t := by
  have h := (hK.2 t _ ht).2
  have e : U.vm.findClass ("[" ++ ty.toString) = some (zk E t) := by
    cases ty <;> first | exact h | (obtain ⟨_, _, _, _, _, h4⟩ := h; exact h4)
  exact Option.some.inj (hf.symm.trans e)
theorem z_newI (hX : zOK X E cc own ret nL) (N : Nat) {i : Int} (harr : Cond.arrayClass .int ∈ lw_all) (d : decode cc pc = .ok (.newarray .int, 2)) (hi : i = (N : Int)) (hN : N ≤ 100000) (hce : ce + 1 ≤ MC) (hsl : sl + N ≤ MS) (kk : ∀ q, μ q = none → zW X (zR k MC MS) E (zu μ q (zai E N (fun _ => 0))) (ce + 1) (sl + N) Q (pc + 2) lv (.ref q :: st)) : zW X (zR k MC MS) E μ ce sl Q pc lv (.int (zI i) :: st) := fun H locs ls a1 a2 a3 => by
  subst hi
  have hcl : (zI (N : Int)).toNatClampNeg = N := by
    have h1 := zI_cl (i := (N : Int)) (by omega)
    omega
  refine va_newaK (atype := .int) hX.x hX.b (hX.t harr) rfl d rfl (by rw [show (0 : Int32) = zI 0 from rfl, zI_lt (by omega) (by decide)]; omega) hcl (Nat.le_trans (Nat.mul_le_mul_right _ hN) (by decide)) hce hsl rfl fun H1 cA e1 z1 o1 hAr hNm => ?_
  have hcA : cA = zk E 0 := zcls hX.k (t := 0) rfl hNm
  obtain ⟨hz, hno⟩ := a1.new (e := zai E N (fun _ => 0)) (H1 := H1) (by
    show H1[H.size]? = some (vp_cell _ _)
    rw [e1, hcA]
    rfl) o1 (Nat.le_trans hX.n a2.1)
  exact kk H.size hno H1 locs ls hz (a2.new z1 o1) a3
theorem z_newJ (hX : zOK X E cc own ret nL) (N : Nat) {i : Int} (harr : Cond.arrayClass .long ∈ lw_all) (d : decode cc pc = .ok (.newarray .long, 2)) (hi : i = (N : Int)) (hN : N ≤ 100000) (hce : ce + 1 ≤ MC) (hsl : sl + N ≤ MS) (kk : ∀ q, μ q = none → zW X (zR k MC MS) E (zu μ q (zaj E N (fun _ => 0))) (ce + 1) (sl + N) Q (pc + 2) lv (.ref q :: st)) : zW X (zR k MC MS) E μ ce sl Q pc lv (.int (zI i) :: st) := fun H locs ls a1 a2 a3 => by
  subst hi
  have hcl : (zI (N : Int)).toNatClampNeg = N := by
    have h1 := zI_cl (i := (N : Int)) (by omega)
    omega
  refine va_newaK (atype := .long) hX.x hX.b (hX.t harr) rfl d rfl (by rw [show (0 : Int32) = zI 0 from rfl, zI_lt (by omega) (by decide)]; omega) hcl (Nat.le_trans (Nat.mul_le_mul_right _ hN) (by decide)) hce hsl rfl fun H1 cA e1 z1 o1 hAr hNm => ?_
  have hcA : cA = zk E 1 := zcls hX.k (t := 1) rfl hNm
  obtain ⟨hz, hno⟩ := a1.new (e := zaj E N (fun _ => 0)) (H1 := H1) (by
    show H1[H.size]? = some (vp_cell _ _)
    rw [e1, hcA]
    rfl) o1 (Nat.le_trans hX.n a2.1)
  exact kk H.size hno H1 locs ls hz (a2.new z1 o1) a3
theorem z_newB (hX : zOK X E cc own ret nL) (N : Nat) {i : Int} (harr : Cond.arrayClass .byte ∈ lw_all) (d : decode cc pc = .ok (.newarray .byte, 2)) (hi : i = (N : Int)) (hN : N ≤ 100000) (hce : ce + 1 ≤ MC) (hsl : sl + N ≤ MS) (kk : ∀ q, μ q = none → zW X (zR k MC MS) E (zu μ q (zab E N (fun _ => 0))) (ce + 1) (sl + N) Q (pc + 2) lv (.ref q :: st)) : zW X (zR k MC MS) E μ ce sl Q pc lv (.int (zI i) :: st) := fun H locs ls a1 a2 a3 => by
  subst hi
  have hcl : (zI (N : Int)).toNatClampNeg = N := by
    have h1 := zI_cl (i := (N : Int)) (by omega)
    omega
  refine va_newaK (atype := .byte) hX.x hX.b (hX.t harr) rfl d rfl (by rw [show (0 : Int32) = zI 0 from rfl, zI_lt (by omega) (by decide)]; omega) hcl (Nat.le_trans (Nat.mul_le_mul_right _ hN) (by decide)) hce hsl rfl fun H1 cA e1 z1 o1 hAr hNm => ?_
  have hcA : cA = zk E 2 := zcls hX.k (t := 2) rfl hNm
  obtain ⟨hz, hno⟩ := a1.new (e := zab E N (fun _ => 0)) (H1 := H1) (by
    show H1[H.size]? = some (vp_cell _ _)
    rw [e1, hcA]
    rfl) o1 (Nat.le_trans hX.n a2.1)
  exact kk H.size hno H1 locs ls hz (a2.new z1 o1) a3
theorem z_newQ (hX : zOK X E cc own ret nL) (t : Nat) (N : Nat) {C : String} {idx : Nat} {i : Int} (ht : (ztys E)[t]? = some (zk E t, .object C)) (hover : va_AO C (zXs X)) (hcl : Cond.classLink own idx C ∈ lw_all) (d : decode cc pc = .ok (.anewarray idx, 3)) (hi : i = (N : Int)) (hN : N ≤ 100000) (hce : ce + 1 ≤ MC) (hsl : sl + N ≤ MS) (kk : ∀ q, μ q = none → zW X (zR k MC MS) E (zu μ q (zaq E t N (fun _ => none))) (ce + 1) (sl + N) Q (pc + 3) lv (.ref q :: st)) : zW X (zR k MC MS) E μ ce sl Q pc lv (.int (zI i) :: st) := fun H locs ls a1 a2 a3 => by
  subst hi
  have hcl2 : (zI (N : Int)).toNatClampNeg = N := by
    have h1 := zI_cl (i := (N : Int)) (by omega)
    omega
  refine W.anew hX.x hX.b hX.o (hX.t hcl) (va_AO.use hover) rfl d rfl (by rw [show (0 : Int32) = zI 0 from rfl, zI_lt (by omega) (by decide)]; omega) (by rw [hcl2]; omega) hce (by rw [hcl2]; exact hsl) fun cA kA comp f1 f2 f3 f4 => ?_
  rw [hcl2]
  have hcA : cA = zk E t := zcls hX.k ht f1
  subst hcA
  generalize hH1 : H.push ({ cls := zk E t, slots := Array.replicate N .null, vm := .none } : Cell) = H1
  have z1 : H1.size = H.size + 1 := by rw [← hH1, Array.size_push]
  have e1 : H1[H.size]? = some (arrV (zk E t) N (fun _ => .null)) := by rw [← hH1, Array.getElem?_push_size, ← arrV_new]
  have o1 : ∀ q : Nat, q < H.size → H1[q]? = H[q]? := fun q hq => by rw [← hH1, Array.getElem?_push, if_neg (Nat.ne_of_lt hq)]
  obtain ⟨hz, hno⟩ := a1.new (e := zaq E t N (fun _ => none)) (H1 := H1) e1 o1 (Nat.le_trans hX.n a2.1)
  exact kk H.size hno H1 locs ls hz (a2.new z1 o1) a3
/-- a call, at any heap of the walk -/
def zRun (X : zX) (R : Room) (E : zE) (μ : zM) (lv : List (Option Value)) (ce sl mc ms pc : Nat) (st rest : List Value) (Qa : State → Outcome → State → Prop) : Prop := ∀ (H : Heap) (locs : List Loc) (ls : Array Slot), zh E μ H → va_S (zA E) (zXs X).heap H locs → zL ls lv → va_Run (zXp X) (zXl X) (zXe X) R (zXs X) (zXm X) (zXa X) (zXb X) (zXh X) (zXc X) H locs ce sl mc ms (F0 (zXm X) pc ls st) rest Qa (zA E)
variable {y : MethodName} {bytes : ByteArray} {maxL n idx : Nat} {rt : Option FieldType} {ws : List Cond} {rm R : Room} {Qc : Array Value → State → Outcome → State → Prop} {C : String} {T : u_T} {N ci b : Nat} {fs As rest : List Value}
theorem zOK.fix (hX : zOK X E cc own ret nL) : CallFix (zXp X) (zXm X) (zXc X) cc nL (zXs X) (zXa X) lw_all own := ⟨hX.x, hX.b, hX.ml, hX.o, hX.ts⟩
theorem z_runV (hX : zOK X E cc own ret nL) (hM : Met (zXl X) y ws rm (va_Pc (.ref b :: As) (zPre E μ)) Qc mc ms (zA E)) (cw : CallW R (zXs X) (zXa X) own C idx y bytes maxL rt ws rm mc ms n) (d : decode cc pc = .ok (.invokevirtual idx, 3)) (hrv : μ b = some (zob ci fs)) (hc : zcl[ci]? = some (C, T, N)) (hn : As.length = n) (hlv : lv.length = nL) (hst : st = As.reverse ++ .ref b :: rest) (hW : (rest.map fun v => v.category).sum ≤ 8) (hf : ce + mc ≤ R.cells ∧ sl + ms ≤ R.slots) : zRun X R E μ lv ce sl mc ms pc st rest (Qc (.ref b :: As).toArray) := fun H locs ls a1 a2 a3 =>
  va_runV hX.fix hM cw ⟨zblind, va_recv hX.k (a1.P hrv) hc (q0 := 0) rfl, fun U hU hW9 => ⟨rfl, hX.pre a2 a1 hU hW9⟩⟩ rfl hn (a3.1.trans hlv) hst (lv_room hW) d hf
theorem z_runS (hX : zOK X E cc own ret nL) (hM : Met (zXl X) y ws rm (va_Pc (As) (zPre E μ)) Qc mc ms (zA E)) (cw : CallB R (zXs X) (zXa X) own idx y bytes maxL rt ws rm mc ms n ∧ (Cond.static y).before (zXa X) (zXs X) = true) (d : decode cc pc = .ok (.invokestatic idx, 3)) (hn : As.length = n) (hlv : lv.length = nL) (hst : st = As.reverse ++ rest) (hW : (rest.map fun v => v.category).sum ≤ 8) (hf : ce + mc ≤ R.cells ∧ sl + ms ≤ R.slots) : zRun X R E μ lv ce sl mc ms pc st rest (Qc (As).toArray) := fun H locs ls a1 a2 a3 =>
  va_runS hX.fix hM cw ⟨zblind, fun U hU hW9 => ⟨rfl, hX.pre a2 a1 hU hW9⟩⟩ rfl hn (a3.1.trans hlv) hst (lv_room hW) d hf
theorem z_runI (hX : zOK X E cc own ret nL) (hM : Met (zXl X) y ws rm (va_Pc (.ref b :: As) (zPre E μ)) Qc mc ms (zA E)) (cw : CallB R (zXs X) (zXa X) own idx y bytes maxL none ws rm mc ms n ∧ y.name = "<init>" ∧ (Cond.instanceMethod y).before (zXa X) (zXs X) = true) (d : decode cc pc = .ok (.invokespecial idx, 3)) (hn : As.length = n) (hlv : lv.length = nL) (hst : st = As.reverse ++ .ref b :: rest) (hW : (rest.map fun v => v.category).sum ≤ 8) (hf : ce + mc ≤ R.cells ∧ sl + ms ≤ R.slots) : zRun X R E μ lv ce sl mc ms pc st rest (Qc (.ref b :: As).toArray) := fun H locs ls a1 a2 a3 =>
  va_runI hX.fix hM cw ⟨zblind, fun U hU hW9 => ⟨rfl, hX.pre a2 a1 hU hW9⟩⟩ rfl hn (a3.1.trans hlv) hst (lv_room hW) d hf
theorem z_runVN (hX : zOK X E cc own ret nL) {host : String} (hM : Met (zXl X) y ws rm (va_Pc (.ref b :: As) (zPre E μ)) Qc mc ms (zA E)) (cw : va_CN R (zXs X) (zXa X) own idx y host bytes maxL rt ws rm mc ms n ∧ (Cond.instanceMethod y).before (zXa X) (zXs X) = true ∧ (Cond.selects C y y).before (zXa X) (zXs X) = true) (d : decode cc pc = .ok (.invokevirtual idx, 3)) (hrv : μ b = some (zob ci fs)) (hc : zcl[ci]? = some (C, T, N)) (hn : As.length = n) (hlv : lv.length = nL) (hst : st = As.reverse ++ .ref b :: rest) (hW : (rest.map fun v => v.category).sum ≤ 8) (hf : ce + mc ≤ R.cells ∧ sl + ms ≤ R.slots) : zRun X R E μ lv ce sl mc ms pc st rest (Qc (.ref b :: As).toArray) := fun H locs ls a1 a2 a3 =>
  va_runVN hX.fix hM cw ⟨zblind, va_recv hX.k (a1.P hrv) hc (q0 := 0) rfl, fun U hU hW9 => ⟨rfl, hX.pre a2 a1 hU hW9⟩⟩ rfl hn (a3.1.trans hlv) hst (lv_room hW) d hf
theorem z_runIN (hX : zOK X E cc own ret nL) {host : String} (hM : Met (zXl X) y ws rm (va_Pc (.ref b :: As) (zPre E μ)) Qc mc ms (zA E)) (cw : va_CN R (zXs X) (zXa X) own idx y host bytes maxL none ws rm mc ms n ∧ y.name = "<init>" ∧ (Cond.instanceMethod y).before (zXa X) (zXs X) = true) (d : decode cc pc = .ok (.invokespecial idx, 3)) (hn : As.length = n) (hlv : lv.length = nL) (hst : st = As.reverse ++ .ref b :: rest) (hW : (rest.map fun v => v.category).sum ≤ 8) (hf : ce + mc ≤ R.cells ∧ sl + ms ≤ R.slots) : zRun X R E μ lv ce sl mc ms pc st rest (Qc (.ref b :: As).toArray) := fun H locs ls a1 a2 a3 =>
  va_runIN hX.fix hM cw ⟨zblind, fun U hU hW9 => ⟨rfl, hX.pre a2 a1 hU hW9⟩⟩ rfl hn (a3.1.trans hlv) hst (lv_room hW) d hf
theorem z_runSN (hX : zOK X E cc own ret nL) {host : String} (hM : Met (zXl X) y ws rm (va_Pc (As) (zPre E μ)) Qc mc ms (zA E)) (cw : va_CN R (zXs X) (zXa X) own idx y host bytes maxL rt ws rm mc ms n ∧ (Cond.static y).before (zXa X) (zXs X) = true ∧ True) (d : decode cc pc = .ok (.invokestatic idx, 3)) (hn : As.length = n) (hlv : lv.length = nL) (hst : st = As.reverse ++ rest) (hW : (rest.map fun v => v.category).sum ≤ 8) (hf : ce + mc ≤ R.cells ∧ sl + ms ≤ R.slots) : zRun X R E μ lv ce sl mc ms pc st rest (Qc (As).toArray) := fun H locs ls a1 a2 a3 =>
  va_runSN hX.fix hM cw ⟨zblind, fun U hU hW9 => ⟨rfl, hX.pre a2 a1 hU hW9⟩⟩ rfl hn (a3.1.trans hlv) hst (lv_room hW) d hf
theorem z_runU (hX : zOK X E cc own ret nL) {owner : String} {xm : MethodName} (hM : Met (zXl X) y ws rm (va_Pc (.ref b :: As) (zPre E μ)) Qc mc ms (zA E)) (cw : va_CU R (zXs X) (zXa X) own C owner idx xm y bytes maxL rt ws rm mc ms n) (d : decode cc pc = .ok (.invokevirtual idx, 3)) (hrv : μ b = some (zob ci fs)) (hc : zcl[ci]? = some (C, T, N)) (hn : As.length = n) (hlv : lv.length = nL) (hst : st = As.reverse ++ .ref b :: rest) (hW : (rest.map fun v => v.category).sum ≤ 8) (hf : ce + mc ≤ R.cells ∧ sl + ms ≤ R.slots) : zRun X R E μ lv ce sl mc ms pc st rest (Qc (.ref b :: As).toArray) := fun H locs ls a1 a2 a3 =>
  va_runU hX.fix hM cw ⟨zblind, va_recv hX.k (a1.P hrv) hc (q0 := 0) rfl, fun U hU hW9 => ⟨rfl, hX.pre a2 a1 hU hW9⟩⟩ rfl hn (a3.1.trans hlv) hst (lv_room hW) d hf
theorem z_calli {post : Int → zM → Prop} {av : Array Value} (hr : zRun X R E μ lv ce sl mc ms pc st rest (zQi E post av)) (kk : ∀ (r : Int) (μ' : zM), post r μ' → zW X R E μ' (ce + mc) (sl + ms) Q (pc + 3) lv (.int (zI r) :: rest)) : zW X R E μ ce sl Q pc lv st := fun H locs ls a1 a2 a3 => va_calli (hr H locs ls a1 a2 a3) a2 (fun _ _ h => h) (fun _ h => h) (fun r u t H1 locs1 ht hvm hp hB hz hk hS => by
  obtain ⟨e, hp⟩ := hp
  subst e
  exact kk u.1 u.2 hp H1 locs1 ls (by rw [← ht]; exact hB.2.2.2.2) hS a3)
theorem z_calll {post : Int → zM → Prop} {av : Array Value} (hr : zRun X R E μ lv ce sl mc ms pc st rest (zQl E post av)) (kk : ∀ (r : Int) (μ' : zM), post r μ' → zW X R E μ' (ce + mc) (sl + ms) Q (pc + 3) lv (.long (zJ r) :: rest)) : zW X R E μ ce sl Q pc lv st := fun H locs ls a1 a2 a3 => va_calll (hr H locs ls a1 a2 a3) a2 (fun _ _ h => h) (fun _ h => h) (fun r u t H1 locs1 ht hvm hp hB hz hk hS => by
  obtain ⟨e, hp⟩ := hp
  subst e
  exact kk u.1 u.2 hp H1 locs1 ls (by rw [← ht]; exact hB.2.2.2.2) hS a3)
theorem z_callb {post : Bool → zM → Prop} {av : Array Value} (hr : zRun X R E μ lv ce sl mc ms pc st rest (zQb E post av)) (kk : ∀ (r : Bool) (μ' : zM), post r μ' → zW X R E μ' (ce + mc) (sl + ms) Q (pc + 3) lv (.int (zI (zb r)) :: rest)) : zW X R E μ ce sl Q pc lv st := fun H locs ls a1 a2 a3 => va_calli (hr H locs ls a1 a2 a3) a2 (fun _ _ h => h) (fun _ h => h) (fun r u t H1 locs1 ht hvm hp hB hz hk hS => by
  obtain ⟨e, hp⟩ := hp
  subst e
  exact kk u.1 u.2 hp H1 locs1 ls (by rw [← ht]; exact hB.2.2.2.2) hS a3)
theorem z_callv {post : zM → Prop} {av : Array Value} (hr : zRun X R E μ lv ce sl mc ms pc st rest (zQv E post av)) (kk : ∀ (μ' : zM), post μ' → zW X R E μ' (ce + mc) (sl + ms) Q (pc + 3) lv rest) : zW X R E μ ce sl Q pc lv st := fun H locs ls a1 a2 a3 => va_callv (hr H locs ls a1 a2 a3) a2 (fun _ _ h => h) (fun _ h => h) (fun u t H1 locs1 ht hvm hp hB hz hk hS => kk u hp H1 locs1 ls (by rw [← ht]; exact hB.2.2.2.2) hS a3)
theorem z_callq {post : Option Nat → zM → Prop} {av : Array Value} (hr : zRun X R E μ lv ce sl mc ms pc st rest (zQq E post av)) (kk : ∀ (r : Option Nat) (μ' : zM), post r μ' → zW X R E μ' (ce + mc) (sl + ms) Q (pc + 3) lv (va_rf r :: rest)) : zW X R E μ ce sl Q pc lv st := fun H locs ls a1 a2 a3 => va_callq (hr H locs ls a1 a2 a3) a2 (fun _ _ h => h) (fun _ h => h) (fun r u t H1 locs1 ht hvm hp hB hz hk hS => kk r u hp H1 locs1 ls (by rw [← ht]; exact hB.2.2.2.2) hS a3)
end ZNEW
theorem zmono_i {l : Launch} {y : MethodName} {ws : List Cond} {rm : Room} {Pc : Array Value → State → Prop} {E : zE} {post post' : Int → zM → Prop} {mc ms : Nat} {fr : Addr → Prop} (h : Met l y ws rm Pc (zQi E post) mc ms fr) (hp : ∀ r μ', post r μ' → post' r μ') : Met l y ws rm Pc (zQi E post') mc ms fr := Jvm.Free.MetFree.mono h (fun _ _ q => q) (fun _ _ _ _ _ q => q) (fun a s o t _ q => by
  obtain ⟨⟨⟨r, u, h1, ⟨h2, h3⟩, h4⟩, h5⟩, h6⟩ := q
  exact ⟨⟨⟨r, u, h1, ⟨h2, hp _ _ h3⟩, h4⟩, h5⟩, h6⟩)
theorem zmono_l {l : Launch} {y : MethodName} {ws : List Cond} {rm : Room} {Pc : Array Value → State → Prop} {E : zE} {post post' : Int → zM → Prop} {mc ms : Nat} {fr : Addr → Prop} (h : Met l y ws rm Pc (zQl E post) mc ms fr) (hp : ∀ r μ', post r μ' → post' r μ') : Met l y ws rm Pc (zQl E post') mc ms fr := Jvm.Free.MetFree.mono h (fun _ _ q => q) (fun _ _ _ _ _ q => q) (fun a s o t _ q => by
  obtain ⟨⟨⟨r, u, h1, ⟨h2, h3⟩, h4⟩, h5⟩, h6⟩ := q
  exact ⟨⟨⟨r, u, h1, ⟨h2, hp _ _ h3⟩, h4⟩, h5⟩, h6⟩)
theorem zmono_b {l : Launch} {y : MethodName} {ws : List Cond} {rm : Room} {Pc : Array Value → State → Prop} {E : zE} {post post' : Bool → zM → Prop} {mc ms : Nat} {fr : Addr → Prop} (h : Met l y ws rm Pc (zQb E post) mc ms fr) (hp : ∀ r μ', post r μ' → post' r μ') : Met l y ws rm Pc (zQb E post') mc ms fr := Jvm.Free.MetFree.mono h (fun _ _ q => q) (fun _ _ _ _ _ q => q) (fun a s o t _ q => by
  obtain ⟨⟨⟨r, u, h1, ⟨h2, h3⟩, h4⟩, h5⟩, h6⟩ := q
  exact ⟨⟨⟨r, u, h1, ⟨h2, hp _ _ h3⟩, h4⟩, h5⟩, h6⟩)
theorem zmono_v {l : Launch} {y : MethodName} {ws : List Cond} {rm : Room} {Pc : Array Value → State → Prop} {E : zE} {post post' : zM → Prop} {mc ms : Nat} {fr : Addr → Prop} (h : Met l y ws rm Pc (zQv E post) mc ms fr) (hp : ∀ μ', post μ' → post' μ') : Met l y ws rm Pc (zQv E post') mc ms fr := Jvm.Free.MetFree.mono h (fun _ _ q => q) (fun _ _ _ _ _ q => q) (fun a s o t _ q => by
  obtain ⟨⟨⟨u, h1, h3, h4⟩, h5⟩, h6⟩ := q
  exact ⟨⟨⟨u, h1, hp _ h3, h4⟩, h5⟩, h6⟩)
theorem zmono_q {l : Launch} {y : MethodName} {ws : List Cond} {rm : Room} {Pc : Array Value → State → Prop} {E : zE} {post post' : Option Nat → zM → Prop} {mc ms : Nat} {fr : Addr → Prop} (h : Met l y ws rm Pc (zQq E post) mc ms fr) (hp : ∀ r μ', post r μ' → post' r μ') : Met l y ws rm Pc (zQq E post') mc ms fr := Jvm.Free.MetFree.mono h (fun _ _ q => q) (fun _ _ _ _ _ q => q) (fun a s o t _ q => by
  obtain ⟨⟨⟨r, u, h1, h3, h4⟩, h5⟩, h6⟩ := q
  exact ⟨⟨⟨r, u, h1, hp _ _ h3, h4⟩, h5⟩, h6⟩)
