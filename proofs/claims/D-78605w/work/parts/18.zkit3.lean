/-! Z-KIT, third part: rows of the other side -/
set_option maxRecDepth 100000
section ZROW3
variable {X : zX} {R : Room} {E : zE} {μ : zM} {ce sl : Nat} {Q : State → Prop} {pc : Nat} {lv : List (Option Value)} {st : List Value} {cc : ByteArray} {own : String} {ret : Option FieldType} {nL : Nat} {a n : Nat} {i x : Int}
theorem z_lxor (hX : zOK X E cc own ret nL) {a b z : Int} (h : zJ a ^^^ zJ b = zJ z) (d : decode cc pc = .ok (.lxor, 1)) (k : zW X R E μ ce sl Q (pc + 1) lv (.long (zJ z) :: st)) : zW X R E μ ce sl Q pc lv (.long (zJ b) :: .long (zJ a) :: st) := fun H locs ls a1 a2 a3 => lv_lxor hX.x hX.b d (h ▸ k H locs ls a1 a2 a3)
theorem z_irem (hX : zOK X E cc own ret nL) {a b z : Int} (hb : ¬ zI b = 0) (h : zI a - zI a / zI b * zI b = zI z) (d : decode cc pc = .ok (.irem, 1)) (k : zW X R E μ ce sl Q (pc + 1) lv (.int (zI z) :: st)) : zW X R E μ ce sl Q pc lv (.int (zI b) :: .int (zI a) :: st) := fun H locs ls a1 a2 a3 => lv_irem hX.x hX.b d hb (h ▸ k H locs ls a1 a2 a3)
theorem z_i2b (hX : zOK X E cc own ret nL) {a : Int} (h : (zI a).toInt8.toInt32 = zI a) (d : decode cc pc = .ok (.i2b, 1)) (k : zW X R E μ ce sl Q (pc + 1) lv (.int (zI a) :: st)) : zW X R E μ ce sl Q pc lv (.int (zI a) :: st) := fun H locs ls a1 a2 a3 => lv_i2b hX.x hX.b d h (k H locs ls a1 a2 a3)
theorem z_ifnull_r (hX : zOK X E cc own ret nL) {a : Nat} {off : Int} (d : decode cc pc = .ok (.ifnull off, 3)) (k : zW X R E μ ce sl Q (pc + 3) lv st) : zW X R E μ ce sl Q pc lv (.ref a :: st) := fun H locs ls a1 a2 a3 => lv_ifnull hX.x hX.b d (k H locs ls a1 a2 a3)
theorem z_ifnull_0 (hX : zOK X E cc own ret nL) {off : Int} {tgt : Nat} (d : decode cc pc = .ok (.ifnull off, 3)) (ht : (pc : Int) + off = (tgt : Int)) (k : zW X R E μ ce sl Q tgt lv st) : zW X R E μ ce sl Q pc lv (.null :: st) := fun H locs ls a1 a2 a3 => lv_ifnullN hX.x hX.b d ht (k H locs ls a1 a2 a3)
theorem z_ifnonnull_r (hX : zOK X E cc own ret nL) {a : Nat} {off : Int} {tgt : Nat} (d : decode cc pc = .ok (.ifnonnull off, 3)) (ht : (pc : Int) + off = (tgt : Int)) (k : zW X R E μ ce sl Q tgt lv st) : zW X R E μ ce sl Q pc lv (.ref a :: st) := fun H locs ls a1 a2 a3 => lv_ifnonnull hX.x hX.b d ht (k H locs ls a1 a2 a3)
theorem z_ifnonnull_0 (hX : zOK X E cc own ret nL) {off : Int} (d : decode cc pc = .ok (.ifnonnull off, 3)) (k : zW X R E μ ce sl Q (pc + 3) lv st) : zW X R E μ ce sl Q pc lv (.null :: st) := fun H locs ls a1 a2 a3 => lv_ifnonnullN hX.x hX.b d (k H locs ls a1 a2 a3)
/-- a cast to the object's own class -/
theorem z_cast (hX : zOK X E cc own ret nL) {idx ci : Nat} {C : String} {T : u_T} {N : Nat} {fs : List Value} (hcl : Cond.classLink own idx C ∈ lw_all) (hc : zcl[ci]? = some (C, T, N)) (d : decode cc pc = .ok (.checkcast idx, 3)) (ha : μ a = some (zob ci fs)) (k : zW X R E μ ce sl Q (pc + 3) lv (.ref a :: st)) : zW X R E μ ce sl Q pc lv (.ref a :: st) := fun H locs ls a1 a2 a3 => by
  obtain ⟨r, h1, cell, q1, q2, q3, q4⟩ := (a1 a _ ha).1
  have hr : r = (C, T, N) := Option.some.inj (h1.symm.trans hc)
  subst hr
  obtain ⟨hS, hfc, kC, hkC, hkind⟩ := hX.k.1 ci _ hc
  exact va_castE hX.x hX.b hX.o (hX.t hcl) ⟨cell, q1, by rw [q3]; rfl, by rw [q2]; exact hfc⟩ d (k H locs ls a1 a2 a3)
theorem z_bastore (hX : zOK X E cc own ret nL) {f : Int → Int} (hx : (zI x).toInt8.toInt32 = zI x) (d : decode cc pc = .ok (.bastore, 1)) (ha : μ a = some (zab E n f)) (hi : 0 ≤ i ∧ i < (n : Int) ∧ n ≤ 2147483647) (kk : zW X R E (zu μ a (zab E n (zf f i x))) ce sl Q (pc + 1) lv st) : zW X R E μ ce sl Q pc lv (.int (zI x) :: .int (zI i) :: .ref a :: st) := fun H locs ls a1 a2 a3 => by
  refine W.bast hX.x hX.b (a1 a _ ha).1 ((hX.k.2 2 _ rfl).1 n (fun j => .int (zI (f j)))) (fun q => by cases q) (by show ¬ (zI i < 0 ∨ (arrV _ _ _).slots.size ≤ _); rw [arrV_size]; exact zI_in hi) rfl rfl d fun H1 e z oq => ?_
  refine kk H1 _ ls (a1.put ha ?_ oq) (a2.put z oq (a1 a _ ha).2) a3
  show H1[a]? = some (vp_cell _ _)
  rw [e]
  rw [vp_cell_i, vp_cell_i, arrV_store]
  congr 2
  funext q
  have hxx : narrow .byte (.int (zI x)) = .int (zI x) := congrArg Value.int hx
  by_cases hq : q = (zI i).toNatClampNeg
  · have h2 := (zI_ix hi q).mp hq
    simp [updV, zf, hq, zI_cl (show 0 ≤ i ∧ i ≤ 2147483647 by omega), hxx]
  · have h2 : ¬ ((q : Int) = i) := fun h => hq ((zI_ix hi q).mpr h)
    simp [updV, zf, hq, h2]
/-- a reference is stored: of the elements' own class; of a castable one; null -/
theorem z_aastore (hX : zOK X E cc own ret nL) (t : Nat) {C : String} {T : u_T} {N ci : Nat} {fs : List Value} {v : Nat} {g : Int → Option Nat} (ht : (ztys E)[t]? = some (zk E t, .object C)) (hc : zcl[ci]? = some (C, T, N)) (d : decode cc pc = .ok (.aastore, 1)) (ha : μ a = some (zaq E t n g)) (hv : μ v = some (zob ci fs)) (hi : 0 ≤ i ∧ i < (n : Int) ∧ n ≤ 2147483647) (kk : zW X R E (zu μ a (zaq E t n (zf g i (some v)))) ce sl Q (pc + 1) lv st) : zW X R E μ ce sl Q pc lv (.ref v :: .int (zI i) :: .ref a :: st) := fun H locs ls a1 a2 a3 => by
  have hin := zI_in hi
  have hlt : (zI i).toNatClampNeg < n := Nat.not_le.mp fun q => hin (Or.inr q)
  have h0 : ¬ zI i < 0 := fun q => hin (Or.inl q)
  obtain ⟨r', hr', cellV, g1, g2, g3, -⟩ := (a1 v _ hv).1
  have hcls := (hX.k.1 ci _ hc).2
  obtain ⟨kA, comp, k1, k2, k3, -⟩ := (hX.k.2 t _ ht).2
  have hcomp : comp = (zD E).1 ci := Option.some.inj (k3.symm.trans hcls.1)
  subst hcomp
  obtain ⟨kC, hkC, -⟩ := hcls.2
  refine W.aast hX.x hX.b (a1 a _ ha).1 (fun q h => by cases h) (fun h => by cases h) k1 k2 rfl hkC ⟨h0, by show _ < (arrV _ _ _).slots.size; rw [arrV_size]; exact hlt⟩ g1 (fun q h => by rw [g3] at h; cases h) (by rw [g2]; exact hkC) (by rw [g2]; exact va_assign hcls) rfl rfl d fun H1 e z oq => ?_
  refine kk H1 _ ls (a1.put ha ?_ oq) (a2.put z oq (a1 a _ ha).2) a3
  show H1[a]? = some (vp_cell _ _)
  rw [e]
  rw [vp_cell_q, vp_cell_q, arrV_store]
  congr 2
  funext q
  by_cases hq : q = (zI i).toNatClampNeg
  · have h2 := (zI_ix hi q).mp hq
    simp [updV, zf, hq, zI_cl (show 0 ≤ i ∧ i ≤ 2147483647 by omega), va_rf]
  · have h2 : ¬ ((q : Int) = i) := fun h => hq ((zI_ix hi q).mpr h)
    simp [updV, zf, hq, h2]
theorem z_aastoreO (hX : zOK X E cc own ret nL) (t : Nat) {B C : String} {T : u_T} {N ci : Nat} {fs : List Value} {v : Nat} {g : Int → Option Nat} (ht : (ztys E)[t]? = some (zk E t, .object B)) (hc : zcl[ci]? = some (C, T, N)) (hca : Cond.castable C B ∈ lw_tbl) (d : decode cc pc = .ok (.aastore, 1)) (ha : μ a = some (zaq E t n g)) (hv : μ v = some (zob ci fs)) (hi : 0 ≤ i ∧ i < (n : Int) ∧ n ≤ 2147483647) (kk : zW X R E (zu μ a (zaq E t n (zf g i (some v)))) ce sl Q (pc + 1) lv st) : zW X R E μ ce sl Q pc lv (.ref v :: .int (zI i) :: .ref a :: st) := fun H locs ls a1 a2 a3 => by
  have hin := zI_in hi
  have hlt : (zI i).toNatClampNeg < n := Nat.not_le.mp fun q => hin (Or.inr q)
  have h0 : ¬ zI i < 0 := fun q => hin (Or.inl q)
  obtain ⟨r', hr', cellV, g1, g2, g3, -⟩ := (a1 v _ hv).1
  have hcls := (hX.k.1 ci _ hc).2
  obtain ⟨kA, comp, k1, k2, k3, -⟩ := (hX.k.2 t _ ht).2
  obtain ⟨kE, hkE, -⟩ := Vm.findClass_spec k3
  obtain ⟨c0, t1, f1, f2, f3⟩ := Cond.castable_spec (va_Nw.use (A := zXa X) rfl (hX.nw hca rfl))
  cases hcls.1.symm.trans f1
  cases k3.symm.trans f2
  obtain ⟨kC, hkC, -⟩ := hcls.2
  refine W.aast hX.x hX.b (a1 a _ ha).1 (fun q h => by cases h) (fun h => by cases h) k1 k2 rfl hkE ⟨h0, by show _ < (arrV _ _ _).slots.size; rw [arrV_size]; exact hlt⟩ g1 (fun q h => by rw [g3] at h; cases h) (by rw [g2]; exact hkC) (by rw [g2]; exact f3) rfl rfl d fun H1 e z oq => ?_
  refine kk H1 _ ls (a1.put ha ?_ oq) (a2.put z oq (a1 a _ ha).2) a3
  show H1[a]? = some (vp_cell _ _)
  rw [e]
  rw [vp_cell_q, vp_cell_q, arrV_store]
  congr 2
  funext q
  by_cases hq : q = (zI i).toNatClampNeg
  · have h2 := (zI_ix hi q).mp hq
    simp [updV, zf, hq, zI_cl (show 0 ≤ i ∧ i ≤ 2147483647 by omega), va_rf]
  · have h2 : ¬ ((q : Int) = i) := fun h => hq ((zI_ix hi q).mpr h)
    simp [updV, zf, hq, h2]
theorem z_aastoreN (hX : zOK X E cc own ret nL) (t : Nat) {C : String} {g : Int → Option Nat} (ht : (ztys E)[t]? = some (zk E t, .object C)) (d : decode cc pc = .ok (.aastore, 1)) (ha : μ a = some (zaq E t n g)) (hi : 0 ≤ i ∧ i < (n : Int) ∧ n ≤ 2147483647) (kk : zW X R E (zu μ a (zaq E t n (zf g i none))) ce sl Q (pc + 1) lv st) : zW X R E μ ce sl Q pc lv (.null :: .int (zI i) :: .ref a :: st) := fun H locs ls a1 a2 a3 => by
  refine va_WaastN (C := C) hX.x hX.b (a1 a _ ha).1 ((hX.k.2 t _ ht).1 n (fun j => va_rf (g j))) (fun h => by cases h) (by show ¬ (zI i < 0 ∨ (arrV _ _ _).slots.size ≤ _); rw [arrV_size]; exact zI_in hi) rfl rfl d fun H1 e z oq => ?_
  refine kk H1 _ ls (a1.put ha ?_ oq) (a2.put z oq (a1 a _ ha).2) a3
  show H1[a]? = some (vp_cell _ _)
  rw [e]
  rw [vp_cell_q, vp_cell_q, arrV_store]
  congr 2
  funext q
  by_cases hq : q = (zI i).toNatClampNeg
  · have h2 := (zI_ix hi q).mp hq
    simp [updV, zf, hq, zI_cl (show 0 ≤ i ∧ i ≤ 2147483647 by omega), va_rf]
  · have h2 : ¬ ((q : Int) = i) := fun h => hq ((zI_ix hi q).mpr h)
    simp [updV, zf, hq, h2]
end ZROW3
/-- a contract of a member of the JDK -/
theorem zmetJ {l : Launch} {y : MethodName} {cc : ByteArray} {nL k mc ms : Nat} {ret : Option FieldType} {E : zE} {av : List Value} {μ : zM} {Qc : Array Value → State → Outcome → State → Prop} (lv : List (Option Value)) (hy : plainFor y = true) (h0 : (lg_sl av).length ≤ nL) (hl : zargs av ++ List.replicate (nL - (zargs av).length) none = lv) (hn : lv.length = nL)
    (body : ∀ X : zX, zXl X = l → zOK X E cc y.cls ret nL → (zXh X).name = y.name → zW X (zR k mc ms) E μ 0 0 (MQ (zXb X) Qc (zXa X) (zXs X) mc ms (zA E)) 0 lv []) : Met l y (ws_ y cc nL ret) (zR k mc ms) (va_Pc av (zPre E μ)) Qc mc ms (zA E) := by
  refine va_MetF (cc := cc) (maxL := nL) (ret := ret) hy rfl ?_
  intro p e s m args below meth c s₁ B hml hv
  obtain ⟨rfl, hp1, hp2, hp3, hp4, hp5⟩ := hv
  have hts := atoms_spec (ws := ws_ y cc nL ret) B.pre
  have hts : ∀ w ∈ lw_all, w.before av.toArray s = true := fun w h => hts w (List.mem_cons_of_mem _ h)
  have hX : zOK (p, l, e, s, m, av.toArray, below, meth, c) E cc y.cls ret nL := ⟨B.exec, B.bytes, findClass_of_methodNamed B.named, hts, hp1, hp2, hp3, B.notSynchronized, hp4, B.returns, hml⟩
  rw [lg_entry_eq]
  exact body (p, l, e, s, m, av.toArray, below, meth, c) rfl hX (name_of_methodNamed B.named B.method).1 s.heap [] _ hp5 va_S.rf (zargs_L h0 hl hn)
theorem z_objInit {X : zX} {R : Room} {E : zE} {μ : zM} {ce sl : Nat} {Q : State → Prop} {pc : Nat} {lv : List (Option Value)} {st : List Value} {cc : ByteArray} {own : String} {ret : Option FieldType} {nL : Nat} {a idx : Nat} (hX : zOK X E cc own ret nL) (hlink : Cond.methodLink own idx Lib.objectInit ∈ lw_all) (d : decode cc pc = .ok (.invokespecial idx, 3)) (hlv : lv.length = nL) (hR : 1 ≤ R.frames ∧ 20 ≤ R.locals) (hW : (st.map fun v => v.category).sum ≤ 8) (k : zW X R E μ ce sl Q (pc + 3) lv st) : zW X R E μ ce sl Q pc lv (.ref a :: st) := fun H locs ls a1 a2 a3 => by
  refine W.objInit hX.x hX.b hX.o (hX.t hlink) (hX.t q105) (hX.t q106) rfl (by rw [hX.2.2.2.2.2.2.2.2.2.2, ← hlv]; exact a3.1) rfl d hR.1 ?_ (k H locs ls a1 a2 a3)
  show 2 * 0 + (st.map fun v => v.category).sum + 12 ≤ R.locals
  omega
