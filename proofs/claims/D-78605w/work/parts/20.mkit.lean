/-! THE MODEL's WORLD: one object of RatioGraphModel and its ten arrays, over the rest of the heap; printed by gen/mkit.py -/
set_option maxRecDepth 100000
theorem znar (z : Int) : narrow .int (.int (zI z)) = .int (zI z) := rfl
theorem zfit (z : Int) : fits .int (.int (zI z)) = true := rfl
theorem znarb (b : Bool) : narrow .boolean (.int (zI (zb b))) = .int (zI (zb b)) := by cases b <;> rfl
theorem zfitb (b : Bool) : fits .boolean (.int (zI (zb b))) = true := by cases b <;> rfl
theorem zhf {k MC MS a b : Nat} (h1 : a ≤ MC) (h2 : b ≤ MS) : a ≤ (zR k MC MS).cells ∧ b ≤ (zR k MC MS).slots := ⟨h1, h2⟩
def zg {α : Type} (f : Nat → α) (k : Nat) (v : α) : Nat → α := fun j => if j = k then v else f j
theorem zg_s {α : Type} (f : Nat → α) (k : Nat) (v : α) : zg f k v k = v := by simp [zg]
theorem zg_n {α : Type} {f : Nat → α} {k j : Nat} {v : α} (h : j ≠ k) : zg f k v j = f j := by simp [zg, h]
def mfl (ad : Nat → Nat) (s : Nat → Int) : List Value := [.ref (ad 0), .ref (ad 1), .int (zI (s 2)), .ref (ad 3), .ref (ad 4), .int (zI (s 5)), .ref (ad 6), .int (zI (s 7)), .long (zJ (s 8)), .long (zJ (s 9)), .ref (ad 10), .int (zI (s 11)), .int (zI (s 12)), .ref (ad 13), .int (zI (s 14)), .int (zI (s 15)), .int (zI (s 16)), .ref (ad 17), .int (zI (s 18)), .int (zI (s 19)), .int (zI (s 20)), .int (zI (s 21)), .ref (ad 22), .int (zI (s 23)), .long (zJ (s 24)), .long (zJ (s 25)), .ref (ad 26), .long (zJ (s 27)), .long (zJ (s 28)), .long (zJ (s 29)), .long (zJ (s 30)), .int (zI (s 31)), .int (zI (s 32)), .long (zJ (s 33)), .long (zJ (s 34)), .long (zJ (s 35)), .long (zJ (s 36)), .int (zI (s 37)), .long (zJ (s 38))]
theorem mset_2 (ad : Nat → Nat) (s : Nat → Int) (v : Int) : (mfl ad s).set 2 (.int (zI v)) = mfl ad (zg s 2 v) := rfl
theorem mset_5 (ad : Nat → Nat) (s : Nat → Int) (v : Int) : (mfl ad s).set 5 (.int (zI v)) = mfl ad (zg s 5 v) := rfl
theorem mset_7 (ad : Nat → Nat) (s : Nat → Int) (v : Int) : (mfl ad s).set 7 (.int (zI v)) = mfl ad (zg s 7 v) := rfl
theorem mset_11 (ad : Nat → Nat) (s : Nat → Int) (v : Int) : (mfl ad s).set 11 (.int (zI v)) = mfl ad (zg s 11 v) := rfl
theorem mset_12 (ad : Nat → Nat) (s : Nat → Int) (v : Int) : (mfl ad s).set 12 (.int (zI v)) = mfl ad (zg s 12 v) := rfl
theorem mset_14 (ad : Nat → Nat) (s : Nat → Int) (v : Int) : (mfl ad s).set 14 (.int (zI v)) = mfl ad (zg s 14 v) := rfl
theorem mset_15 (ad : Nat → Nat) (s : Nat → Int) (v : Int) : (mfl ad s).set 15 (.int (zI v)) = mfl ad (zg s 15 v) := rfl
theorem mset_16 (ad : Nat → Nat) (s : Nat → Int) (v : Int) : (mfl ad s).set 16 (.int (zI v)) = mfl ad (zg s 16 v) := rfl
theorem mset_18 (ad : Nat → Nat) (s : Nat → Int) (v : Int) : (mfl ad s).set 18 (.int (zI v)) = mfl ad (zg s 18 v) := rfl
theorem mset_19 (ad : Nat → Nat) (s : Nat → Int) (v : Int) : (mfl ad s).set 19 (.int (zI v)) = mfl ad (zg s 19 v) := rfl
theorem mset_20 (ad : Nat → Nat) (s : Nat → Int) (v : Int) : (mfl ad s).set 20 (.int (zI v)) = mfl ad (zg s 20 v) := rfl
theorem mset_21 (ad : Nat → Nat) (s : Nat → Int) (v : Int) : (mfl ad s).set 21 (.int (zI v)) = mfl ad (zg s 21 v) := rfl
theorem mset_23 (ad : Nat → Nat) (s : Nat → Int) (v : Int) : (mfl ad s).set 23 (.int (zI v)) = mfl ad (zg s 23 v) := rfl
theorem mset_31 (ad : Nat → Nat) (s : Nat → Int) (v : Int) : (mfl ad s).set 31 (.int (zI v)) = mfl ad (zg s 31 v) := rfl
theorem mset_32 (ad : Nat → Nat) (s : Nat → Int) (v : Int) : (mfl ad s).set 32 (.int (zI v)) = mfl ad (zg s 32 v) := rfl
theorem mset_37 (ad : Nat → Nat) (s : Nat → Int) (v : Int) : (mfl ad s).set 37 (.int (zI v)) = mfl ad (zg s 37 v) := rfl
theorem mset_8 (ad : Nat → Nat) (s : Nat → Int) (v : Int) : (mfl ad s).set 8 (.long (zJ v)) = mfl ad (zg s 8 v) := rfl
theorem mset_9 (ad : Nat → Nat) (s : Nat → Int) (v : Int) : (mfl ad s).set 9 (.long (zJ v)) = mfl ad (zg s 9 v) := rfl
theorem mset_24 (ad : Nat → Nat) (s : Nat → Int) (v : Int) : (mfl ad s).set 24 (.long (zJ v)) = mfl ad (zg s 24 v) := rfl
theorem mset_25 (ad : Nat → Nat) (s : Nat → Int) (v : Int) : (mfl ad s).set 25 (.long (zJ v)) = mfl ad (zg s 25 v) := rfl
theorem mset_27 (ad : Nat → Nat) (s : Nat → Int) (v : Int) : (mfl ad s).set 27 (.long (zJ v)) = mfl ad (zg s 27 v) := rfl
theorem mset_28 (ad : Nat → Nat) (s : Nat → Int) (v : Int) : (mfl ad s).set 28 (.long (zJ v)) = mfl ad (zg s 28 v) := rfl
theorem mset_29 (ad : Nat → Nat) (s : Nat → Int) (v : Int) : (mfl ad s).set 29 (.long (zJ v)) = mfl ad (zg s 29 v) := rfl
theorem mset_30 (ad : Nat → Nat) (s : Nat → Int) (v : Int) : (mfl ad s).set 30 (.long (zJ v)) = mfl ad (zg s 30 v) := rfl
theorem mset_33 (ad : Nat → Nat) (s : Nat → Int) (v : Int) : (mfl ad s).set 33 (.long (zJ v)) = mfl ad (zg s 33 v) := rfl
theorem mset_34 (ad : Nat → Nat) (s : Nat → Int) (v : Int) : (mfl ad s).set 34 (.long (zJ v)) = mfl ad (zg s 34 v) := rfl
theorem mset_35 (ad : Nat → Nat) (s : Nat → Int) (v : Int) : (mfl ad s).set 35 (.long (zJ v)) = mfl ad (zg s 35 v) := rfl
theorem mset_36 (ad : Nat → Nat) (s : Nat → Int) (v : Int) : (mfl ad s).set 36 (.long (zJ v)) = mfl ad (zg s 36 v) := rfl
theorem mset_38 (ad : Nat → Nat) (s : Nat → Int) (v : Int) : (mfl ad s).set 38 (.long (zJ v)) = mfl ad (zg s 38 v) := rfl
abbrev mks : List Nat := [0, 1, 3, 4, 6, 10, 13, 17, 22, 26]
def mln (k : Nat) : Nat := match k with | 0 => 113 | 1 => 1356 | 4 => 150 | 10 => 512 | 13 => 112 | _ => 8
def mar (E : zE) (A : Nat → Int → Int) (k : Nat) : va_E := if k = 10 ∨ k = 26 then zaj E (mln k) (A k) else zai E (mln k) (A k)
/-- the model's cells over the rest -/
def mM (E : zE) (ν : zM) (m0 : Nat) (ad : Nat → Nat) (s : Nat → Int) (A : Nat → Int → Int) : zM := fun b => if b = m0 then some (zob 1 (mfl ad s)) else match mks.find? (fun k => decide (ad k = b)) with | some k => some (mar E A k) | none => ν b
def mD (m0 : Nat) (ad : Nat → Nat) : Prop := (∀ k ∈ mks, ad k ≠ m0) ∧ ∀ i ∈ mks, ∀ j ∈ mks, ad i = ad j → i = j
section MKIT
variable {X : zX} {R : Room} {E : zE} {ν : zM} {m0 : Nat} {ad : Nat → Nat} {s : Nat → Int} {A : Nat → Int → Int} {ce sl : Nat} {Q : State → Prop} {pc : Nat} {lv : List (Option Value)} {st : List Value} {cc : ByteArray} {ret : Option FieldType} {nL : Nat} {i x : Int} {idx : Nat}
theorem mM_0 : mM E ν m0 ad s A m0 = some (zob 1 (mfl ad s)) := by simp [mM]
theorem mM_find (hD : mD m0 ad) {k : Nat} (hk : k ∈ mks) : mks.find? (fun j => decide (ad j = ad k)) = some k := by
  cases h : mks.find? (fun j => decide (ad j = ad k)) with
  | none => exact absurd (List.find?_eq_none.mp h k hk) (by simp)
  | some j =>
    have h1 := List.find?_some h
    have h2 := List.mem_of_find?_eq_some h
    rw [hD.2 j h2 k hk (by simpa using h1)]
theorem mM_a (hD : mD m0 ad) {k : Nat} (hk : k ∈ mks) : mM E ν m0 ad s A (ad k) = some (mar E A k) := by
  unfold mM
  rw [if_neg (hD.1 k hk), mM_find hD hk]
theorem mM_n {b : Nat} (h0 : b ≠ m0) (ha : ∀ k ∈ mks, b ≠ ad k) : mM E ν m0 ad s A b = ν b := by
  unfold mM
  rw [if_neg h0]
  have h : mks.find? (fun k => decide (ad k = b)) = none := List.find?_eq_none.mpr (fun k hk => by simpa using fun e => ha k hk e.symm)
  rw [h]
theorem mM_s (hD : mD m0 ad) (s' : Nat → Int) : zu (mM E ν m0 ad s A) m0 (zob 1 (mfl ad s')) = mM E ν m0 ad s' A := by
  funext b
  by_cases h : b = m0
  · subst h; rw [zu_s, mM_0]
  · rw [zu_n h]; simp [mM, h]
theorem mM_A (hD : mD m0 ad) {k : Nat} (hk : k ∈ mks) {A' : Nat → Int → Int} (hA : ∀ j ∈ mks, j ≠ k → A' j = A j) : zu (mM E ν m0 ad s A) (ad k) (mar E A' k) = mM E ν m0 ad s A' := by
  funext b
  by_cases h : b = ad k
  · subst h; rw [zu_s, mM_a hD hk]
  · rw [zu_n h]
    unfold mM
    by_cases h0 : b = m0
    · rw [if_pos h0, if_pos h0]
    · rw [if_neg h0, if_neg h0]
      cases hf : mks.find? (fun k => decide (ad k = b)) with
      | none => rfl
      | some j =>
        have h1 : ad j = b := by simpa using List.find?_some hf
        have h2 := List.mem_of_find?_eq_some hf
        have h3 : j ≠ k := fun e => h (by rw [← h1, e])
        simp only [mar, hA j h2 h3]
/-- a world that holds the model's cells is the model over itself -/
theorem mM_id {μ : zM} (h0 : μ m0 = some (zob 1 (mfl ad s))) (ha : ∀ k ∈ mks, μ (ad k) = some (mar E A k)) : mM E μ m0 ad s A = μ := by
  funext b
  unfold mM
  by_cases h : b = m0
  · rw [if_pos h, h, h0]
  · rw [if_neg h]
    cases hf : mks.find? (fun k => decide (ad k = b)) with
    | none => rfl
    | some j =>
      have h1 : ad j = b := by simpa using List.find?_some hf
      rw [← h1, ha j (List.mem_of_find?_eq_some hf)]
theorem zm_get (hX : zOK X E cc RX1 ret nL) (k : Nat) (hk : k < 39) (hlink : Cond.fieldLink RX1 idx "RatioGraphModel" (TX1 k).2.1 (TX1 k).2.2.1 ∈ lw_all) (d : decode cc pc = .ok (.getfield idx, 3)) (hr : (TX1 k).1 = "RatioGraphModel") {v : Value} (hv : (mfl ad s)[k]? = some v) (kk : zW X R E (mM E ν m0 ad s A) ce sl Q (pc + 3) lv (v :: st)) : zW X R E (mM E ν m0 ad s A) ce sl Q pc lv (.ref m0 :: st) :=
  z_get hX (C := RX1) (T := TX1) (N := 39) (ci := 1) rfl in_X1 k hk hlink (Or.inl hr.symm) d mM_0 hv kk
theorem zm_puti (hX : zOK X E cc RX1 ret nL) (hD : mD m0 ad) (k : Nat) (hk : k < 39) (hlink : Cond.fieldLink RX1 idx "RatioGraphModel" (TX1 k).2.1 (TX1 k).2.2.1 ∈ lw_all) (d : decode cc pc = .ok (.putfield idx, 3)) (hq : (tyX1 k, (TX1 k).1, (TX1 k).2.2.2) = (.int, "RatioGraphModel", false)) (hs : ∀ (ad : Nat → Nat) (s : Nat → Int) (v : Int), (mfl ad s).set k (.int (zI v)) = mfl ad (zg s k v)) (kk : zW X R E (mM E ν m0 ad (zg s k x) A) ce sl Q (pc + 3) lv st) : zW X R E (mM E ν m0 ad s A) ce sl Q pc lv (.int (zI x) :: .ref m0 :: st) := by
  simp only [Prod.mk.injEq] at hq
  exact z_put hX (C := RX1) (T := TX1) (N := 39) (ci := 1) rfl in_X1 tyX1 tyX1_ok zn_X1 k hk hlink (Or.inl hq.2.1.symm) hq.2.2 hq.1 d mM_0 (by simpa [mfl] using hk) rfl rfl (hs ad s x) (by rw [mM_s hD]; exact kk)
theorem zm_putl (hX : zOK X E cc RX1 ret nL) (hD : mD m0 ad) (k : Nat) (hk : k < 39) (hlink : Cond.fieldLink RX1 idx "RatioGraphModel" (TX1 k).2.1 (TX1 k).2.2.1 ∈ lw_all) (d : decode cc pc = .ok (.putfield idx, 3)) (hq : (tyX1 k, (TX1 k).1, (TX1 k).2.2.2) = (.long, "RatioGraphModel", false)) (hs : ∀ (ad : Nat → Nat) (s : Nat → Int) (v : Int), (mfl ad s).set k (.long (zJ v)) = mfl ad (zg s k v)) (kk : zW X R E (mM E ν m0 ad (zg s k x) A) ce sl Q (pc + 3) lv st) : zW X R E (mM E ν m0 ad s A) ce sl Q pc lv (.long (zJ x) :: .ref m0 :: st) := by
  simp only [Prod.mk.injEq] at hq
  exact z_put hX (C := RX1) (T := TX1) (N := 39) (ci := 1) rfl in_X1 tyX1 tyX1_ok zn_X1 k hk hlink (Or.inl hq.2.1.symm) hq.2.2 hq.1 d mM_0 (by simpa [mfl] using hk) rfl rfl (hs ad s x) (by rw [mM_s hD]; exact kk)
theorem zm_putz (hX : zOK X E cc RX1 ret nL) (hD : mD m0 ad) {b : Bool} (k : Nat) (hk : k < 39) (hlink : Cond.fieldLink RX1 idx "RatioGraphModel" (TX1 k).2.1 (TX1 k).2.2.1 ∈ lw_all) (d : decode cc pc = .ok (.putfield idx, 3)) (hq : (tyX1 k, (TX1 k).1, (TX1 k).2.2.2) = (.boolean, "RatioGraphModel", false)) (hs : ∀ (ad : Nat → Nat) (s : Nat → Int) (v : Int), (mfl ad s).set k (.int (zI v)) = mfl ad (zg s k v)) (kk : zW X R E (mM E ν m0 ad (zg s k (zb b)) A) ce sl Q (pc + 3) lv st) : zW X R E (mM E ν m0 ad s A) ce sl Q pc lv (.int (zI (zb b)) :: .ref m0 :: st) := by
  simp only [Prod.mk.injEq] at hq
  exact z_put hX (C := RX1) (T := TX1) (N := 39) (ci := 1) rfl in_X1 tyX1 tyX1_ok zn_X1 k hk hlink (Or.inl hq.2.1.symm) hq.2.2 hq.1 d mM_0 (by simpa [mfl] using hk) (znarb b) (zfitb b) (hs ad s (zb b)) (by rw [mM_s hD]; exact kk)
theorem zm_iaload (hX : zOK X E cc RX1 ret nL) (hD : mD m0 ad) (k : Nat) (hk : k ∈ mks) (hj : ¬ (k = 10 ∨ k = 26)) (N : Nat) (hN : mln k = N) (d : decode cc pc = .ok (.iaload, 1)) (hi : 0 ≤ i ∧ i < (N : Int)) (kk : zW X R E (mM E ν m0 ad s A) ce sl Q (pc + 1) lv (.int (zI (A k i)) :: st)) : zW X R E (mM E ν m0 ad s A) ce sl Q pc lv (.int (zI i) :: .ref (ad k) :: st) := by
  subst hN
  exact z_iaload (n := mln k) (f := A k) hX d (by rw [mM_a hD hk]; unfold mar; first | rw [if_pos hj] | rw [if_neg hj]) ⟨hi.1, hi.2, by unfold mln; split <;> decide⟩ kk
theorem zm_laload (hX : zOK X E cc RX1 ret nL) (hD : mD m0 ad) (k : Nat) (hk : k ∈ mks) (hj : k = 10 ∨ k = 26) (N : Nat) (hN : mln k = N) (d : decode cc pc = .ok (.laload, 1)) (hi : 0 ≤ i ∧ i < (N : Int)) (kk : zW X R E (mM E ν m0 ad s A) ce sl Q (pc + 1) lv (.long (zJ (A k i)) :: st)) : zW X R E (mM E ν m0 ad s A) ce sl Q pc lv (.int (zI i) :: .ref (ad k) :: st) := by
  subst hN
  exact z_laload (n := mln k) (f := A k) hX d (by rw [mM_a hD hk]; unfold mar; first | rw [if_pos hj] | rw [if_neg hj]) ⟨hi.1, hi.2, by unfold mln; split <;> decide⟩ kk
theorem zm_iastore (hX : zOK X E cc RX1 ret nL) (hD : mD m0 ad) (k : Nat) (hk : k ∈ mks) (hj : ¬ (k = 10 ∨ k = 26)) (N : Nat) (hN : mln k = N) (d : decode cc pc = .ok (.iastore, 1)) (hi : 0 ≤ i ∧ i < (N : Int)) (kk : zW X R E (mM E ν m0 ad s (zg A k (zf (A k) i x))) ce sl Q (pc + 1) lv st) : zW X R E (mM E ν m0 ad s A) ce sl Q pc lv (.int (zI x) :: .int (zI i) :: .ref (ad k) :: st) := by
  subst hN
  refine z_iastore (n := mln k) (f := A k) hX d (by rw [mM_a hD hk]; unfold mar; first | rw [if_pos hj] | rw [if_neg hj]) ⟨hi.1, hi.2, by unfold mln; split <;> decide⟩ ?_
  have e : zai E (mln k) (zf (A k) i x) = mar E (zg A k (zf (A k) i x)) k := by
    unfold mar
    first | rw [if_pos hj, zg_s] | rw [if_neg hj, zg_s]
  rw [e, mM_A hD hk (fun j _ hjk => zg_n hjk)]
  exact kk
theorem zm_lastore (hX : zOK X E cc RX1 ret nL) (hD : mD m0 ad) (k : Nat) (hk : k ∈ mks) (hj : k = 10 ∨ k = 26) (N : Nat) (hN : mln k = N) (d : decode cc pc = .ok (.lastore, 1)) (hi : 0 ≤ i ∧ i < (N : Int)) (kk : zW X R E (mM E ν m0 ad s (zg A k (zf (A k) i x))) ce sl Q (pc + 1) lv st) : zW X R E (mM E ν m0 ad s A) ce sl Q pc lv (.long (zJ x) :: .int (zI i) :: .ref (ad k) :: st) := by
  subst hN
  refine z_lastore (n := mln k) (f := A k) hX d (by rw [mM_a hD hk]; unfold mar; first | rw [if_pos hj] | rw [if_neg hj]) ⟨hi.1, hi.2, by unfold mln; split <;> decide⟩ ?_
  have e : zaj E (mln k) (zf (A k) i x) = mar E (zg A k (zf (A k) i x)) k := by
    unfold mar
    first | rw [if_pos hj, zg_s] | rw [if_neg hj, zg_s]
  rw [e, mM_A hD hk (fun j _ hjk => zg_n hjk)]
  exact kk
end MKIT
