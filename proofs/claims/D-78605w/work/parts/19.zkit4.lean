/-! Z-KIT, fourth part: statics, class objects, copies of arrays -/
set_option maxRecDepth 100000
section ZROW4
variable {X : zX} {R : Room} {E : zE} {μ : zM} {ce sl : Nat} {Q : State → Prop} {pc : Nat} {lv : List (Option Value)} {st : List Value} {cc : ByteArray} {own : String} {ret : Option FieldType} {nL : Nat} {a n : Nat} {i x : Int}
theorem z_gets (hX : zOK X E cc own ret nL) {C nm ds : String} {v : Value} {idx : Nat} (hZ : va_Z C nm ds v (zA E) (zXs X) (zXs X).heap) (hlink : Cond.fieldLink own idx C nm ds ∈ lw_all) (d : decode cc pc = .ok (.getstatic idx, 3)) (k : zW X R E μ ce sl Q (pc + 3) lv (v :: st)) : zW X R E μ ce sl Q pc lv st := fun H locs ls a1 a2 a3 =>
  va_gets hX.x hX.b hZ a2 hX.o (hX.t hlink) (fun _ h => h) d (k H locs ls a1 a2 a3)
theorem z_ldcM (hX : zOK X E cc own ret nL) {C : String} {idx mi : Nat} (hM : va_Mi C mi (zXs X)) (hlink : Cond.classLink own idx C ∈ lw_all) (d : decode cc pc = .ok (.ldc idx, 2)) (k : zW X R E μ ce sl Q (pc + 2) lv (.ref mi :: st)) : zW X R E μ ce sl Q pc lv st := fun H locs ls a1 a2 a3 =>
  va_ldcM hX.x hX.b hX.o (hX.t hlink) hM d (k H locs ls a1 a2 a3)
/-- getClass of an array of objects -/
theorem z_getC (hX : zOK X E cc own ret nL) {idx : Nat} {g : Int → Option Nat} (hlink : Cond.methodLink own idx ⟨"java/lang/Object", "getClass", "()Ljava/lang/Class;"⟩ ∈ lw_all) (hsel : Cond.selects "[Ljava/lang/Object;" ⟨"java/lang/Object", "getClass", "()Ljava/lang/Class;"⟩ ⟨"java/lang/Object", "getClass", "()Ljava/lang/Class;"⟩ ∈ lw_all) (hinst : Cond.instanceMethod ⟨"java/lang/Object", "getClass", "()Ljava/lang/Class;"⟩ ∈ lw_all) (hnat : Cond.native ⟨"java/lang/Object", "getClass", "()Ljava/lang/Class;"⟩ ∈ lw_all)
    (d : decode cc pc = .ok (.invokevirtual idx, 3)) (ha : μ a = some (zaq E 3 n g)) (hlv : lv.length = nL) (hR : 1 ≤ R.frames ∧ 30 ≤ R.locals) (hW : (st.map fun v => v.category).sum ≤ 8) (k : zW X R E μ ce sl Q (pc + 3) lv (.ref (zs E 2) :: st)) : zW X R E μ ce sl Q pc lv (.ref a :: st) := fun H locs ls a1 a2 a3 => by
  have hc : H[a]? = some (vp_cell (zk E 3) (n, .inr (.inr (.inr (.inr (fun j : Nat => g j)))))) := (a1 a _ ha).1
  exact va_getC (C := "[Ljava/lang/Object;") hX.x hX.b (hX.ml.trans (hlv.symm.trans a3.1.symm)) hX.o (hX.t hlink) (va_Dc.use hX.T.2.2.2.2.2.1) (hX.t hsel) (hX.t hinst) (hX.t hnat) hX.T.2.2.2.1 ⟨_, hc, rfl, va_nmO (hX.k.2 3 _ rfl).2 (by decide)⟩ hR.1 (by omega) d (k H locs ls a1 a2 a3)
end ZROW4
/-- a stretch of f laid over g -/
def zcp {α : Type} (f g : Int → α) (sp dp c : Int) : Int → α := fun j => if dp ≤ j ∧ j < dp + c then f (sp + (j - dp)) else g j
section ZROW5
variable {X : zX} {R : Room} {E : zE} {μ : zM} {ce sl : Nat} {Q : State → Prop} {pc : Nat} {lv : List (Option Value)} {st : List Value} {cc : ByteArray} {own : String} {ret : Option FieldType} {nL : Nat}
theorem zI_nn {z : Int} (h : 0 ≤ z ∧ z ≤ 2147483647) : ¬ zI z < 0 ∧ (zI z).toNatClampNeg = z.toNat ∧ (zI z).toInt = z := by
  have h1 : (zI z).toInt = z := zI_toInt (by omega)
  refine ⟨fun q => ?_, ?_, h1⟩
  · rw [show (0 : Int32) = zI 0 from rfl, zI_lt (by omega) (by omega)] at q
    omega
  · show (zI z).toInt.toNat = z.toNat
    rw [h1]
theorem z_copyi (hX : zOK X E cc own ret nL) {idx : Nat} {a0 a n0 n : Nat} {f g : Int → Int} {sp dp c : Int} (hlink : Cond.methodLink own idx arraycopyName ∈ lw_all) (hnat : Cond.native arraycopyName ∈ lw_all) (hstat : Cond.static arraycopyName ∈ lw_all) (hini : Cond.initialized "java/lang/System" ∈ lw_all)
    (d : decode cc pc = .ok (.invokestatic idx, 3)) (ha0 : μ a0 = some (zai E n0 f)) (ha : μ a = some (zai E n g)) (hb : (0 ≤ sp ∧ 0 ≤ dp ∧ 0 ≤ c) ∧ sp + c ≤ n0 ∧ dp + c ≤ n ∧ n0 ≤ 100000 ∧ n ≤ 100000) (hlv : lv.length = nL) (hR : 1 ≤ R.frames ∧ 60 ≤ R.locals) (hW : (st.map fun v => v.category).sum ≤ 8)
    (kk : zW X R E (zu μ a (zai E n (zcp f g sp dp c))) ce sl Q (pc + 3) lv st) : zW X R E μ ce sl Q pc lv (.int (zI c) :: .int (zI dp) :: .ref a :: .int (zI sp) :: .ref a0 :: st) := fun H locs ls a1 a2 a3 => by
  obtain ⟨s1, s2, s3⟩ := zI_nn (z := sp) (by omega)
  obtain ⟨d1, d2, d3⟩ := zI_nn (z := dp) (by omega)
  obtain ⟨c1, c2, c3⟩ := zI_nn (z := c) (by omega)
  have hc0 : H[a0]? = some (vp_cell (zk E 0) (n0, .inl (fun j : Nat => zI (f j)))) := (a1 a0 _ ha0).1
  have hc1 : H[a]? = some (vp_cell (zk E 0) (n, .inl (fun j : Nat => zI (g j)))) := (a1 a _ ha).1
  obtain ⟨-, k0, hk0, cm0, hkk0⟩ := (hX.k.2 0 _ rfl).1 n0 (fun j => .int (zI (f j)))
  intro T hT XX
  obtain ⟨vm', X', step⟩ := XX.arraycopy hX.x hX.o (hX.t hlink) (hX.t hnat) (hX.t hstat) (hX.t hini) (src := a0) (dst := a) (cs := vp_cell (zk E 0) (n0, .inl (fun j : Nat => zI (f j)))) (cd := vp_cell (zk E 0) (n, .inl (fun j : Nat => zI (g j)))) (srcPos := zI sp) (destPos := zI dp) (n := zI c) (by rw [hT]; exact hc0) (by rw [hT]; exact hc1)
    (fun _ h => by cases h) (fun _ h => by cases h) (fun h => by cases h) (fun h => by cases h) hk0 hk0 hkk0 hkk0 rfl s1 d1 c1
    (by rw [s3, c3]; show ¬ _ > ((arrV (zk E 0) n0 (fun j : Nat => .int (zI (f j)))).slots.size : Int); rw [arrV_size]; omega)
    (by rw [d3, c3]; show ¬ _ > ((arrV (zk E 0) n (fun j : Nat => .int (zI (g j)))).slots.size : Int); rw [arrV_size]; omega)
    (fun vm₁ _ i hi => by
      have e : (vp_cell (zk E 0) (n0, .inl (fun j : Nat => zI (f j)))).slots.getD ((zI sp).toNatClampNeg + i) .null = .int (zI (f (((zI sp).toNatClampNeg + i : Nat) : Int))) := by
        show (arrV (zk E 0) n0 (fun j : Nat => .int (zI (f j)))).slots.getD _ _ = _
        rw [Array.getD_eq_getD_getElem?, arrV_read _ _ (by omega)]
        rfl
      refine ⟨?_, ?_⟩
      · rw [e]; rfl
      · rw [e]
        exact trivial)
    (g := F0 (zXm X) pc ls (.int (zI c) :: .int (zI dp) :: .ref a :: .int (zI sp) :: .ref a0 :: st)) rfl (by rw [hX.ml, ← hlv]; exact a3.1) (rest := st) rfl (by rw [hX.b]; exact d) hR.1 (by show 2 * 0 + _ + _ ≤ _; have hw : nativeFrameWords "java/lang/System" "arraycopy" 5 ≤ 40 := (by decide); omega)
  have e1 : copied (vp_cell (zk E 0) (n0, .inl (fun j : Nat => zI (f j)))) (vp_cell (zk E 0) (n, .inl (fun j : Nat => zI (g j)))) (zI sp) (zI dp) (zI c) = vp_cell (zk E 0) (n, .inl (fun j : Nat => zI (zcp f g sp dp c j))) := by
    have h := va_copied (fun z => .int z) (zk E 0) (zk E 0) (n0 := n0) (n1 := n) (sp := (zI sp).toNatClampNeg) (dp := (zI dp).toNatClampNeg) (n := (zI c).toNatClampNeg) (fun j : Nat => zI (f j)) (fun j : Nat => zI (g j)) (by omega)
    have e2 : va_cpy (fun j : Nat => zI (f j)) (fun j : Nat => zI (g j)) (zI sp).toNatClampNeg (zI dp).toNatClampNeg (zI c).toNatClampNeg = (fun j : Nat => zI (zcp f g sp dp c j)) := by
      funext j
      rw [s2, d2, c2]
      unfold va_cpy zcp
      by_cases q : dp.toNat ≤ j ∧ j < dp.toNat + c.toNat
      · rw [if_pos q, if_pos (by omega)]
        show zI (f ((sp.toNat + (j - dp.toNat) : Nat) : Int)) = _
        rw [show ((sp.toNat + (j - dp.toNat) : Nat) : Int) = sp + ((j : Int) - dp) by omega]
      · rw [if_neg q, if_neg (by omega)]
    rw [e2] at h
    exact h
  rw [e1] at X' step
  have hl : a < H.size := (Array.getElem?_eq_some_iff.mp hc1).1
  have oq : ∀ q : Nat, q ≠ a → (H.setIfInBounds a (vp_cell (zk E 0) (n, .inl (fun j : Nat => zI (zcp f g sp dp c j)))))[q]? = H[q]? := fun q hq => by simp [Array.getElem?_setIfInBounds, Ne.symm hq]
  have hheap : ((T.setVm vm').setCell a (vp_cell (zk E 0) (n, .inl (fun j : Nat => zI (zcp f g sp dp c j))))).heap = H.setIfInBounds a (vp_cell (zk E 0) (n, .inl (fun j : Nat => zI (zcp f g sp dp c j)))) := by rw [← hT]; rfl
  obtain ⟨t, b1, b2⟩ := kk _ _ ls (a1.put (H1 := H.setIfInBounds a (vp_cell (zk E 0) (n, .inl (fun j : Nat => zI (zcp f g sp dp c j))))) (e := zai E n (zcp f g sp dp c)) ha (show (H.setIfInBounds a _)[a]? = some _ by simp [Array.getElem?_setIfInBounds, hl]) oq) ⟨by simp; exact a2.1, fun q g1 g2 => by
      rw [oq q (fun e => g2 (by rw [e]; exact (a1 a _ ha).2))]
      exact a2.2.1 q g1 g2, fun q hq => by
      rcases List.mem_append.mp hq with h | h
      · exact a2.2.2 q h
      · obtain ⟨z, -, hz⟩ := List.mem_map.mp h
        rw [← hz]
        exact (a1 a _ ha).2⟩ a3 _ hheap X'
  exact ⟨t, step t b1, b2⟩
theorem z_copyq (hX : zOK X E cc own ret nL) {idx : Nat} {a0 a n0 n : Nat} {f g : Int → Option Nat} (t0 t1 : Nat) {E0 E1 C : String} (ht0 : (ztys E)[t0]? = some (zk E t0, .object E0)) (ht1 : (ztys E)[t1]? = some (zk E t1, .object E1)) (hca : Cond.castable C E1 ∈ lw_tbl) {sp dp c : Int} (hlink : Cond.methodLink own idx arraycopyName ∈ lw_all) (hnat : Cond.native arraycopyName ∈ lw_all) (hstat : Cond.static arraycopyName ∈ lw_all) (hini : Cond.initialized "java/lang/System" ∈ lw_all)
    (d : decode cc pc = .ok (.invokestatic idx, 3)) (ha0 : μ a0 = some (zaq E t0 n0 f)) (ha : μ a = some (zaq E t1 n g)) (hb : (0 ≤ sp ∧ 0 ≤ dp ∧ 0 ≤ c) ∧ sp + c ≤ n0 ∧ dp + c ≤ n ∧ n0 ≤ 100000 ∧ n ≤ 100000) (hel : ∀ i, sp ≤ i → i < sp + c → ∀ y, f i = some y → ∃ ci fs T N, μ y = some (zob ci fs) ∧ zcl[ci]? = some (C, T, N)) (hlv : lv.length = nL) (hR : 1 ≤ R.frames ∧ 60 ≤ R.locals) (hW : (st.map fun v => v.category).sum ≤ 8)
    (kk : zW X R E (zu μ a (zaq E t1 n (zcp f g sp dp c))) ce sl Q (pc + 3) lv st) : zW X R E μ ce sl Q pc lv (.int (zI c) :: .int (zI dp) :: .ref a :: .int (zI sp) :: .ref a0 :: st) := fun H locs ls a1 a2 a3 => by
  obtain ⟨s1, s2, s3⟩ := zI_nn (z := sp) (by omega)
  obtain ⟨d1, d2, d3⟩ := zI_nn (z := dp) (by omega)
  obtain ⟨c1, c2, c3⟩ := zI_nn (z := c) (by omega)
  have hc0 : H[a0]? = some (vp_cell (zk E t0) (n0, .inr (.inr (.inr (.inr (fun j : Nat => f j)))))) := (a1 a0 _ ha0).1
  have hc1 : H[a]? = some (vp_cell (zk E t1) (n, .inr (.inr (.inr (.inr (fun j : Nat => g j)))))) := (a1 a _ ha).1
  obtain ⟨-, k0, hk0, cm0, hkk0⟩ := (hX.k.2 t0 _ ht0).1 n0 (fun j => va_rf (f j))
  obtain ⟨-, k1, hk1, cm1, hkk1⟩ := (hX.k.2 t1 _ ht1).1 n (fun j => va_rf (g j))
  intro T hT XX
  obtain ⟨vm', X', step⟩ := XX.arraycopy hX.x hX.o (hX.t hlink) (hX.t hnat) (hX.t hstat) (hX.t hini) (src := a0) (dst := a) (cs := vp_cell (zk E t0) (n0, .inr (.inr (.inr (.inr (fun j : Nat => f j)))))) (cd := vp_cell (zk E t1) (n, .inr (.inr (.inr (.inr (fun j : Nat => g j)))))) (srcPos := zI sp) (destPos := zI dp) (n := zI c) (by rw [hT]; exact hc0) (by rw [hT]; exact hc1)
    (fun _ h => by cases h) (fun _ h => by cases h) (fun h => by cases h) (fun h => by cases h) hk0 hk1 hkk0 hkk1 rfl s1 d1 c1
    (by rw [s3, c3]; show ¬ _ > ((arrV (zk E t0) n0 (fun j : Nat => va_rf (f j))).slots.size : Int); rw [arrV_size]; omega)
    (by rw [d3, c3]; show ¬ _ > ((arrV (zk E t1) n (fun j : Nat => va_rf (g j))).slots.size : Int); rw [arrV_size]; omega)
    (fun vm₁ hal i hi => by
      have e : (vp_cell (zk E t0) (n0, .inr (.inr (.inr (.inr (fun j : Nat => f j)))))).slots.getD ((zI sp).toNatClampNeg + i) .null = va_rf (f (((zI sp).toNatClampNeg + i : Nat) : Int)) := by
        show (arrV (zk E t0) n0 (fun j : Nat => va_rf (f j))).slots.getD _ _ = _
        rw [Array.getD_eq_getD_getElem?, arrV_read _ _ (by omega)]
        rfl
      rw [e]
      cases hy : f (((zI sp).toNatClampNeg + i : Nat) : Int) with
      | none => exact ⟨rfl, trivial⟩
      | some y =>
        obtain ⟨ci, fs, TT, NN, m1, m2⟩ := hel _ (by omega) (by omega) y hy
        obtain ⟨r', hr', cellV, g1, g2, g3, -⟩ := (a1 y _ m1).1
        have hcls := (hX.k.1 ci _ m2).2
        have hrr : r' = (C, TT, NN) := Option.some.inj (hr'.symm.trans m2)
        subst hrr
        obtain ⟨kA, comp, r1, r2, r3, -⟩ := (hX.k.2 t1 _ ht1).2
        cases hk1.symm.trans r1
        cases hkk1.symm.trans r2
        obtain ⟨c9, t9, f1, f2, f3⟩ := Cond.castable_spec (va_Nw.use (A := zXa X) rfl (hX.nw hca rfl))
        cases hcls.1.symm.trans f1
        cases r3.symm.trans f2
        obtain ⟨kC, hkC, -⟩ := Vm.findClass_spec f1
        obtain ⟨kE, hkE, -⟩ := Vm.findClass_spec r3
        obtain ⟨kC', hkC', -⟩ := hal.2.2 _ _ hkC
        obtain ⟨kE', hkE', -⟩ := hal.2.2 _ _ hkE
        refine ⟨rfl, cellV, (show T.heap[y]? = some cellV by rw [hT]; exact g1), (fun q h => by rw [g3] at h; cases h), ⟨kC', by rw [g2]; exact hkC'⟩, ?_, ?_⟩
        · exact ⟨kE', hkE'⟩
        · show vm₁.assignable _ _ = true
          rw [hal.assignable, g2]
          exact f3)
    (g := F0 (zXm X) pc ls (.int (zI c) :: .int (zI dp) :: .ref a :: .int (zI sp) :: .ref a0 :: st)) rfl (by rw [hX.ml, ← hlv]; exact a3.1) (rest := st) rfl (by rw [hX.b]; exact d) hR.1 (by show 2 * 0 + _ + _ ≤ _; have hw : nativeFrameWords "java/lang/System" "arraycopy" 5 ≤ 40 := (by decide); omega)
  have e1 : copied (vp_cell (zk E t0) (n0, .inr (.inr (.inr (.inr (fun j : Nat => f j)))))) (vp_cell (zk E t1) (n, .inr (.inr (.inr (.inr (fun j : Nat => g j)))))) (zI sp) (zI dp) (zI c) = vp_cell (zk E t1) (n, .inr (.inr (.inr (.inr (fun j : Nat => zcp f g sp dp c j))))) := by
    have h := va_copied (fun z => va_rf z) (zk E t0) (zk E t1) (n0 := n0) (n1 := n) (sp := (zI sp).toNatClampNeg) (dp := (zI dp).toNatClampNeg) (n := (zI c).toNatClampNeg) (fun j : Nat => f j) (fun j : Nat => g j) (by omega)
    have e2 : va_cpy (fun j : Nat => f j) (fun j : Nat => g j) (zI sp).toNatClampNeg (zI dp).toNatClampNeg (zI c).toNatClampNeg = (fun j : Nat => zcp f g sp dp c j) := by
      funext j
      rw [s2, d2, c2]
      unfold va_cpy zcp
      by_cases q : dp.toNat ≤ j ∧ j < dp.toNat + c.toNat
      · rw [if_pos q, if_pos (by omega)]
        show f ((sp.toNat + (j - dp.toNat) : Nat) : Int) = _
        rw [show ((sp.toNat + (j - dp.toNat) : Nat) : Int) = sp + ((j : Int) - dp) by omega]
      · rw [if_neg q, if_neg (by omega)]
    rw [e2] at h
    exact h
  rw [e1] at X' step
  have hl : a < H.size := (Array.getElem?_eq_some_iff.mp hc1).1
  have oq : ∀ q : Nat, q ≠ a → (H.setIfInBounds a (vp_cell (zk E t1) (n, .inr (.inr (.inr (.inr (fun j : Nat => zcp f g sp dp c j)))))))[q]? = H[q]? := fun q hq => by simp [Array.getElem?_setIfInBounds, Ne.symm hq]
  have hheap : ((T.setVm vm').setCell a (vp_cell (zk E t1) (n, .inr (.inr (.inr (.inr (fun j : Nat => zcp f g sp dp c j))))))).heap = H.setIfInBounds a (vp_cell (zk E t1) (n, .inr (.inr (.inr (.inr (fun j : Nat => zcp f g sp dp c j)))))) := by rw [← hT]; rfl
  obtain ⟨t, b1, b2⟩ := kk _ _ ls (a1.put (H1 := H.setIfInBounds a (vp_cell (zk E t1) (n, .inr (.inr (.inr (.inr (fun j : Nat => zcp f g sp dp c j))))))) (e := zaq E t1 n (zcp f g sp dp c)) ha (show (H.setIfInBounds a _)[a]? = some _ by simp [Array.getElem?_setIfInBounds, hl]) oq) ⟨by simp; exact a2.1, fun q g1 g2 => by
      rw [oq q (fun e => g2 (by rw [e]; exact (a1 a _ ha).2))]
      exact a2.2.1 q g1 g2, fun q hq => by
      rcases List.mem_append.mp hq with h | h
      · exact a2.2.2 q h
      · obtain ⟨z, -, hz⟩ := List.mem_map.mp h
        rw [← hz]
        exact (a1 a _ ha).2⟩ a3 _ hheap X'
  exact ⟨t, step t b1, b2⟩
end ZROW5
section ZROW6
variable {X : zX} {R : Room} {E : zE} {μ : zM} {ce sl : Nat} {Q : State → Prop} {pc : Nat} {lv : List (Option Value)} {st : List Value} {cc : ByteArray} {own : String} {ret : Option FieldType} {nL : Nat} {a : Nat}
/-- getClass through an interface, of an ArrayList -/
theorem z_getCI (hX : zOK X E cc own ret nL) {idx count : Nat} {fs : List Value} (hlink : Cond.methodLink own idx ⟨"java/util/Collection", "getClass", "()Ljava/lang/Class;"⟩ ∈ lw_all) (hsel : Cond.selects "java/util/ArrayList" ⟨"java/util/Collection", "getClass", "()Ljava/lang/Class;"⟩ ⟨"java/lang/Object", "getClass", "()Ljava/lang/Class;"⟩ ∈ lw_all) (hinst : Cond.instanceMethod ⟨"java/lang/Object", "getClass", "()Ljava/lang/Class;"⟩ ∈ lw_all) (hnat : Cond.native ⟨"java/lang/Object", "getClass", "()Ljava/lang/Class;"⟩ ∈ lw_all) (hca : Cond.castable "java/util/ArrayList" "java/util/Collection" ∈ lw_tbl)
    (d : decode cc pc = .ok (.invokeinterface idx count, 5)) (ha : μ a = some (zob 17 fs)) (hlv : lv.length = nL) (hR : 1 ≤ R.frames ∧ 30 ≤ R.locals) (hW : (st.map fun v => v.category).sum ≤ 8) (k : zW X R E μ ce sl Q (pc + 5) lv (.ref (zs E 3) :: st)) : zW X R E μ ce sl Q pc lv (.ref a :: st) := fun H locs ls a1 a2 a3 => by
  obtain ⟨r, h1, cell, q1, q2, q3, q4⟩ := (a1 a _ ha).1
  have hc : zcl[17]? = some (RJ2, TJ2, 3) := rfl
  have hr : r = (RJ2, TJ2, 3) := Option.some.inj (h1.symm.trans hc)
  subst hr
  obtain ⟨hS, hfc, kC, hkC, hkind⟩ := hX.k.1 17 _ hc
  obtain ⟨c0, k0, m1, m2, m3⟩ := hX.T.2.2.2.2.1
  have e0 : c0 = (zD E).1 17 := Option.some.inj (m1.symm.trans hfc)
  subst e0
  have hg := hX.T.2.2.2.2.2.2.2
  intro T hT XX
  obtain ⟨vm', X', step⟩ := XX.getClassOfI hX.x (C := "java/util/ArrayList") (xi := ⟨"java/util/Collection", "getClass", "()Ljava/lang/Class;"⟩) hX.o (hX.t hlink) (va_Dc.use hX.T.2.2.2.2.2.1) (va_any rfl hg.1) (hX.t hsel) (hX.t hinst) (va_any rfl hg.2.1) (va_any rfl hg.2.2) (va_any rfl (hX.nw hca rfl)) (hX.t hnat) (by decide) (by decide) rfl rfl m1 m2 ⟨cell, by rw [hT]; exact q1, q2, by rw [q3]; rfl⟩ m3 (g := F0 (zXm X) pc ls (.ref a :: st)) rfl (by rw [hX.ml, ← hlv]; exact a3.1) rfl (by rw [hX.b]; exact d) hR.1 (by show 2 * 0 + _ + _ ≤ _; have hw : nativeFrameWords "java/lang/Object" "getClass" 1 = 3 := (by decide); omega)
  obtain ⟨t, b1, b2⟩ := k H locs ls a1 a2 a3 (T.setVm vm') hT X'
  exact ⟨t, step t b1, b2⟩
/-- ArrayList.toArray through an interface -/
theorem z_callF (hX : zOK X E cc own ret nL) {idx count mc ms maxL : Nat} {bytes : ByteArray} {rt : Option FieldType} {ws : List Cond} {rm : Room} {post : Option Nat → zM → Prop} {fs : List Value} (hM : Met (zXl X) zFy ws rm (va_Pc [.ref a] (zPre E μ)) (zQq E post) mc ms (zA E)) (cw : va_CI R (zXs X) (zXa X) own "java/util/ArrayList" idx zFx zFy bytes maxL rt ws rm mc ms 0) (d : decode cc pc = .ok (.invokeinterface idx count, 5)) (hrv : μ a = some (zob 17 fs)) (hlv : lv.length = nL) (hW : (st.map fun v => v.category).sum ≤ 8) (hf : ce + mc ≤ R.cells ∧ sl + ms ≤ R.slots)
    (kk : ∀ (r : Option Nat) (μ' : zM), post r μ' → zW X R E μ' (ce + mc) (sl + ms) Q (pc + 5) lv (va_rf r :: st)) : zW X R E μ ce sl Q pc lv (.ref a :: st) := fun H locs ls a1 a2 a3 => by
  have hc : zcl[17]? = some (RJ2, TJ2, 3) := rfl
  exact va_callFq (va_runF (C := "java/util/ArrayList") (As := []) (hX.k.1 17 _ hc).2 hX.fix hM cw ⟨zblind, va_recv hX.k (a1.P hrv) hc (q0 := 0) rfl, fun U hU hW9 => ⟨rfl, hX.pre a2 a1 hU hW9⟩⟩ rfl rfl (a3.1.trans hlv) rfl (lv_room hW) d hf) a2 (fun _ _ h => h) (fun _ h => h) (fun r u t H1 locs1 ht hvm hp hB hz hk hS => kk r u hp H1 locs1 ls (by rw [← ht]; exact hB.2.2.2.2) hS a3)
end ZROW6
