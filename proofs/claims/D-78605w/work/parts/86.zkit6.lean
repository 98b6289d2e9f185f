/-! Z-KIT, sixth part: a table of longs, rows by references -/
set_option maxRecDepth 100000
theorem outerC_arr (c : ClassId) (N h0 : Nat) : ∀ i, Jvm.Free.Multi.outerC c N h0 i = arrV c N (fun j => if j < i then .ref (h0 + 1 + j) else .null)
  | 0 => by
    show ({ cls := c, slots := Array.replicate N .null, vm := .none } : Cell) = _
    rw [arrV_new]
    congr 1
  | i + 1 => by
    show (Jvm.Free.Multi.outerC c N h0 i).setSlot i (.ref (h0 + 1 + i)) = _
    rw [outerC_arr c N h0 i, arrV_store]
    congr 1
    funext j
    unfold updV
    by_cases q : j = i
    · subst q
      simp
    · by_cases q2 : j < i
      · simp [q, q2, show j < i + 1 by omega]
      · simp [q, q2, show ¬ j < i + 1 by omega]
/-- the table behind the cells known -/
def zmm (E : zE) (μ : zM) (q : Nat) : zM := fun b => if b = q then some (zaq E 5 9 (fun i => some (q + 1 + i.toNat))) else if q < b ∧ b ≤ q + 9 then some (zaj E 8 (fun _ => 0)) else μ b
section ZROW8
variable {X : zX} {E : zE} {μ : zM} {ce sl k mc ms MC MS : Nat} {Q : State → Prop} {pc : Nat} {lv : List (Option Value)} {st : List Value} {cc : ByteArray} {own : String} {ret : Option FieldType} {nL : Nat} {a n : Nat} {i : Int}
theorem z_newM (hX : zOK X E cc own ret nL) {idx : Nat} (hcl : Cond.classLink own idx "[[J" ∈ lw_all) (d : decode cc pc = .ok (.multianewarray idx 2, 4)) (hce : ce + 10 ≤ MC) (hsl : sl + 81 ≤ MS) (kk : ∀ q, (∀ b, q ≤ b → μ b = none) → zW X (zR k MC MS) E (zmm E μ q) (ce + 10) (sl + 81) Q (pc + 4) lv (.ref q :: st)) : zW X (zR k MC MS) E μ ce sl Q pc lv (.int (zI 8) :: .int (zI 9) :: st) := fun H locs ls a1 a2 a3 => by
  intro T hT XX
  have h9 : (zI 9).toNatClampNeg = 9 := by decide
  have h8 : (zI 8).toNatClampNeg = 8 := by decide
  have hover : (Cond.arrayOver (.array .long)).before (zXa X) (zXs X) = true := hX.nw q665 rfl
  obtain ⟨vm₁, cA, comp, hW, hfA, hfC, hO, hI, X1, step⟩ := XX.multianewarray2F hX.x (own := own) (index := idx) (ty := .long) hX.o (hX.t hcl) hover (hX.t q704) (g := F0 (zXm X) pc ls (.int (zI 8) :: .int (zI 9) :: st)) rfl (by rw [hX.b]; exact d) (n := zI 9) (k := zI 8) (rest := st) rfl (by decide) (by decide) (by decide) (by decide) (by decide) rfl rfl (by rw [h9]; show ce + (1 + 9) ≤ MC; omega) (by rw [h9, h8]; show sl + (9 + 9 * 8) ≤ MS; omega)
  rw [h9, h8] at X1 step
  have hTh : (T.setVm vm₁).heap = H := hT
  obtain ⟨f1, f2, f3, f4⟩ := Jvm.Free.Multi.fill_facts (T.setVm vm₁) cA comp 9 8 (defaultValue .long) 9
  have f5 : ∀ b : Nat, b < H.size → (Jvm.Free.Multi.fill (T.setVm vm₁) cA comp 9 8 (defaultValue .long) 9).heap[b]? = H[b]? := fun b hb => by
    rw [Jvm.Free.Multi.fill_old (T.setVm vm₁) cA comp 9 8 (defaultValue .long) (by rw [hTh]; exact hb), hTh]
  have f6 := Jvm.Free.Multi.fill_inner (T.setVm vm₁) cA comp 9 8 (defaultValue .long) 9
  rw [hTh] at f1 f2 f6
  generalize hF : Jvm.Free.Multi.fill (T.setVm vm₁) cA comp 9 8 (defaultValue .long) 9 = F at X1 step f1 f2 f5 f6
  have hcA : cA = zk E 5 := zcls hX.k (t := 5) rfl hfA
  have hcm : comp = zk E 1 := zcls hX.k (t := 1) rfl hfC
  subst hcA
  subst hcm
  have hno : ∀ b, H.size ≤ b → μ b = none := fun b hb => by
    cases hx : μ b with
    | none => rfl
    | some e => exact absurd (a1.lt hx) (by omega)
  have hnE : zn E ≤ H.size := Nat.le_trans hX.n a2.1
  have hh : zh E (zmm E μ H.size) F.heap := by
    intro b e hb
    unfold zmm at hb
    by_cases q : b = H.size
    · rw [if_pos q] at hb
      cases hb
      subst q
      refine ⟨?_, Or.inl hnE⟩
      show F.heap[H.size]? = some (vp_cell _ _)
      rw [f2, outerC_arr]
      refine Eq.trans ?_ (congrArg some (vp_cell_q (zk E 5) 9 (fun j => some (H.size + 1 + ((j : Nat) : Int).toNat))).symm)
      congr 1
    · rw [if_neg q] at hb
      by_cases q2 : H.size < b ∧ b ≤ H.size + 9
      · rw [if_pos q2] at hb
        cases hb
        refine ⟨?_, Or.inl (by omega)⟩
        show F.heap[b]? = some (vp_cell _ _)
        have h7 := f6 (b - H.size - 1) (by omega)
        rw [show H.size + 1 + (b - H.size - 1) = b by omega] at h7
        rw [h7]
        refine Eq.trans ?_ (congrArg some (vp_cell_l (zk E 1) 8 (fun j => zJ 0)).symm)
        show some ({ cls := zk E 1, slots := Array.replicate 8 (defaultValue .long), vm := .none } : Cell) = _
        rw [arrV_new]
        rfl
      · rw [if_neg q2] at hb
        have hlt := a1.lt hb
        exact ⟨(a1 b e hb).1.kept (f5 b hlt), (a1 b e hb).2⟩
  obtain ⟨t, b1, b2⟩ := kk H.size hno F.heap locs ls hh ⟨Nat.le_trans a2.1 (by omega), fun x h1 h2 => (f5 x (Nat.lt_of_lt_of_le h1 a2.1)).trans (a2.2.1 x h1 h2), a2.2.2⟩ a3 F rfl X1
  refine ⟨t, step t ?_, b2⟩
  rw [hT]
  exact b1
theorem z_aaloadA (hX : zOK X E cc own ret nL) {R : Room} {g : Int → Option Nat} (d : decode cc pc = .ok (.aaload, 1)) (ha : μ a = some (zaq E 5 n g)) (hi : 0 ≤ i ∧ i < (n : Int) ∧ n ≤ 2147483647) (kk : zW X R E μ ce sl Q (pc + 1) lv (va_rf (g i) :: st)) : zW X R E μ ce sl Q pc lv (.int (zI i) :: .ref a :: st) := fun H locs ls a1 a2 a3 => by
  have hin := zI_in hi
  have hlt : (zI i).toNatClampNeg < n := Nat.not_le.mp fun q => hin (Or.inr q)
  have hcl : (((zI i).toNatClampNeg : Nat) : Int) = i := by
    rw [zI_cl (show 0 ≤ i ∧ i ≤ 2147483647 by omega)]
  refine W.aald (v := va_rf (g i)) (ty := .array .long) hX.x hX.b (a1 a _ ha).1 ((hX.k.2 5 _ rfl).1 n (fun j => va_rf (g j))) rfl (fun q => by cases q) (by show ¬ (zI i < 0 ∨ (arrV _ _ _).slots.size ≤ _); rw [arrV_size]; exact hin) (by
    show (arrV _ _ _).slots[_]? = _
    rw [arrV_read _ _ hlt]
    show some (va_rf (g (((zI i).toNatClampNeg : Nat) : Int))) = _
    rw [hcl]) rfl rfl d (kk H locs ls a1 a2 a3)
theorem z_aaloadB (hX : zOK X E cc own ret nL) {R : Room} {g : Int → Option Nat} {b : Nat} (d : decode cc pc = .ok (.aaload, 1)) (ha : μ a = some (zaq E 5 n g)) (hb : g i = some b) (hi : 0 ≤ i ∧ i < (n : Int) ∧ n ≤ 2147483647) (kk : zW X R E μ ce sl Q (pc + 1) lv (.ref b :: st)) : zW X R E μ ce sl Q pc lv (.int (zI i) :: .ref a :: st) := z_aaloadA hX d ha hi (by rw [hb]; exact kk)
end ZROW8
