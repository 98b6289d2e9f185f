/-! X SIDE 5: ArrayList: set, add, copies -/
set_option maxRecDepth 100000
/-- an object of the class C -/
def zel (C : String) (μ : zM) (y : Nat) : Prop := ∃ ci fs T N, μ y = some (zob ci fs) ∧ zcl[ci]? = some (C, T, N)
theorem zel.ne {C : String} {μ : zM} {y q : Nat} (h : zel C μ y) (hq : μ q = none) : y ≠ q := by
  obtain ⟨ci, fs, T, N, h1, -⟩ := h
  exact zne h1 hq
theorem x_set (l : Launch) (E : zE) {μ : zM} {L arr c : Nat} {rs : List Nat} (h : AL E μ L arr c rs) {i v : Nat} {gv : Int → Int} (hi : i < rs.length) (hv : μ v = some (zed gv)) : Met l yJ2_set (ws_ yJ2_set cJ2_set 4 (some (.object "java/lang/Object"))) (zR 2 0 0) (va_Pc [.ref L, .int (zI (i : Int)), .ref v] (zPre E μ)) (zQq E (fun r μ' => rs[i]? = r ∧ AL E μ' L arr c (rs.set i v) ∧ ∀ b, b ≠ arr → μ' b = μ b)) 0 0 (zA E) := by
  have h' := h
  have hne := h.ne
  obtain ⟨mod, g, h1, h2, h3, h4, h5⟩ := h
  refine zmetJ (cc := cJ2_set) [_, _, _, _] (by decide +kernel) (Nat.le_of_ble_eq_true rfl) rfl rfl ?_
  intro X hl hX hinit; subst hl
  have hX : zOK X _ cJ2_set RJ2 (some (.object "java/lang/Object")) 4 := hX
  refine z_iload_n hX rfl dJ2_set_0 ?_
  refine z_aload_n hX rfl (by first | rfl | exact va_rf_r _) dJ2_set_1 ?_
  refine z_get hX (C := RJ2) (T := TJ2) (N := 3) (ci := 17) rfl in_J2 2 (by decide) q124 (Or.inl rfl) dJ2_set_2 (by first | assumption | exact zu_s _ _ _ | exact zu_o (by assumption) (by assumption) | exact zu_o (by assumption) (zu_o (by assumption) (by assumption))) rfl ?_
  refine z_calli (z_runS hX (x_ck _ _ _ (by omega)) (va_cwS 2 hX.ts (lw_S q416 q417 q78 q418) rfl rfl rfl (by decide +kernel) (zroom (by decide) (by decide))) dJ2_set_5 rfl rfl rfl (by first | exact Nat.le_of_ble_eq_true rfl | simp [va_rf_c, Value.category]) (zhf (by omega) (by omega))) (fun r_5 μ_5 h_5 => ?_)
  obtain ⟨rfl, rfl⟩ := h_5
  refine z_pop hX (by first | rfl | exact va_rf_c _) dJ2_set_8 ?_
  refine z_aload_n hX rfl (by first | rfl | exact va_rf_r _) dJ2_set_9 ?_
  refine z_iload_n hX rfl dJ2_set_10 ?_
  refine z_callq (z_runV hX (x_elem _ _ h' hi) (cwV 1 hX.ts (lw_V q435 q436 q437 q68 q438) rfl rfl rfl (by decide +kernel) (zroom (by decide) (by decide))) dJ2_set_11 (by first | assumption | exact zu_s _ _ _ | exact zu_o (by assumption) (by assumption) | exact zu_o (by assumption) (zu_o (by assumption) (by assumption))) (ci := 17) rfl rfl rfl rfl (by first | exact Nat.le_of_ble_eq_true rfl | simp [va_rf_c, Value.category]) (zhf (by omega) (by omega))) (fun r_11 μ_11 h_11 => ?_)
  obtain ⟨rfl, rfl⟩ := h_11
  refine z_astore_n hX (lv' := [_, _, _, _]) (by first | rfl | exact va_rf_r _) (Nat.le_of_ble_eq_true rfl) (by first | exact zpre_0 | exact zpre_n rfl | exact zpre_1 rfl rfl | exact zpre_1 rfl (va_rf_c _)) rfl dJ2_set_14 ?_
  refine z_aload_n hX rfl (by first | rfl | exact va_rf_r _) dJ2_set_15 ?_
  refine z_get hX (C := RJ2) (T := TJ2) (N := 3) (ci := 17) rfl in_J2 1 (by decide) q123 (Or.inl rfl) dJ2_set_16 (by first | assumption | exact zu_s _ _ _ | exact zu_o (by assumption) (by assumption) | exact zu_o (by assumption) (zu_o (by assumption) (by assumption))) rfl ?_
  refine z_iload_n hX rfl dJ2_set_19 ?_
  refine z_aload_n hX rfl (by first | rfl | exact va_rf_r _) dJ2_set_20 ?_
  refine z_aastoreO hX 3 (C := RX2) (T := TX2) (N := 7) (ci := 2) rfl rfl q1800 dJ2_set_21 (by first | assumption | exact zu_s _ _ _ | exact zu_o (by assumption) (by assumption) | exact zu_o (by assumption) (zu_o (by assumption) (by assumption))) (by first | assumption | exact zu_s _ _ _ | exact zu_o (by assumption) (by assumption) | exact zu_o (by assumption) (zu_o (by assumption) (by assumption))) (by omega) ?_
  refine z_aload_n hX rfl (by first | rfl | exact va_rf_r _) dJ2_set_22 ?_
  (try rw [← hQ])
  first | refine z_areturn hX (r := some _) rfl (by first | exact Or.inl ⟨_, rfl⟩ | exact Or.inr ⟨_, rfl⟩) dJ2_set_23 (by omega) (by omega) ?_ | refine z_areturn hX (r := none) rfl (by first | exact Or.inl ⟨_, rfl⟩ | exact Or.inr ⟨_, rfl⟩) dJ2_set_23 (by omega) (by omega) ?_ | refine z_areturn hX rfl (by first | exact Or.inl ⟨_, rfl⟩ | exact Or.inr ⟨_, rfl⟩) dJ2_set_23 (by omega) (by omega) ?_
  refine ⟨rfl, ⟨mod, zf g i (some v), ?_, zu_s _ _ _, by rw [List.length_set]; exact h3, h4, fun j hj => ?_⟩, fun b hb => zu_n hb⟩
  · rw [zu_n hne, List.length_set]; exact h1
  · rw [List.length_set] at hj
    rw [List.getElem?_set]
    by_cases q : i = j
    · subst q
      rw [zf_s, if_pos rfl, if_pos hi]
    · rw [zf_n (by omega), if_neg q]
      exact h5 j hj
theorem x_newLen (l : Launch) (E : zE) (μ : zM) {o m p : Int} (ho : 0 ≤ o ∧ o ≤ 1000) (hm : 1 ≤ m ∧ m ≤ 1000) (hp : 0 ≤ p ∧ p ≤ 1000) : Met l yJ8_newLength (ws_ yJ8_newLength cJ8_newLength 4 (some .int)) (zR 1 0 0) (va_Pc [.int (zI o), .int (zI m), .int (zI p)] (zPre E μ)) (zQi E (fun r μ' => μ = μ' ∧ o + max m p = r)) 0 0 (zA E) := by
  refine zmetJ (cc := cJ8_newLength) [_, _, _, _] (by decide +kernel) (Nat.le_of_ble_eq_true rfl) rfl rfl ?_
  intro X hl hX hinit; subst hl
  have hX : zOK X _ cJ8_newLength RJ8 (some .int) 4 := hX
  refine z_iload_n hX rfl dJ8_newLength_0 ?_
  refine z_iload_n hX rfl dJ8_newLength_1 ?_
  refine z_iload_n hX rfl dJ8_newLength_2 ?_
  refine z_calli (z_runS hX (x_maxi _ _ _ (by omega) (by omega)) (va_cwS 2 hX.ts (lw_S q396 q397 q75 q398) rfl rfl rfl (by decide +kernel) (zroom (by decide) (by decide))) dJ8_newLength_3 rfl rfl rfl (by first | exact Nat.le_of_ble_eq_true rfl | simp [va_rf_c, Value.category]) (zhf (by omega) (by omega))) (fun r_3 μ_3 h_3 => ?_)
  obtain ⟨rfl, rfl⟩ := h_3
  refine z_iadd hX dJ8_newLength_6 ?_
  refine z_istore_n hX (lv' := [_, _, _, _]) (Nat.le_of_ble_eq_true rfl) (by first | exact zpre_0 | exact zpre_n rfl | exact zpre_1 rfl rfl | exact zpre_1 rfl (va_rf_c _)) rfl dJ8_newLength_7 ?_
  refine z_iconst hX dJ8_newLength_8 ?_
  refine z_iload_n hX rfl dJ8_newLength_9 ?_
  refine z_icmp_ge hX (by omega) (by omega) dJ8_newLength_10 (tgt := 21) rfl (fun h_10 => ?_) (fun h_10 => ?_)
  · exact absurd h_10 (by omega)
  · refine z_iload_n hX rfl dJ8_newLength_13 ?_
    refine z_ldc hX (z := 2147483639) q399 (by decide) dJ8_newLength_14 ?_
    refine z_icmp_gt hX (by omega) (by omega) dJ8_newLength_16 (tgt := 21) rfl (fun h_16 => ?_) (fun h_16 => ?_)
    · exact absurd h_16 (by omega)
    · refine z_iload_n hX rfl dJ8_newLength_19 ?_
      (try rw [← hQ])
      refine z_ireturn hX dJ8_newLength_20 (by omega) (by omega) ?_
      exact ⟨rfl, rfl⟩
theorem x_copyOf2 (l : Launch) (E : zE) {μ : zM} {a n0 c : Nat} {f : Int → Option Nat} (ha : μ a = some (zaq E 3 n0 f)) (hn0 : n0 ≤ 1000) (hc : c ≤ 1000) {C : String} (hca : Cond.castable C "java/lang/Object" ∈ lw_tbl) (hel : ∀ i, 0 ≤ i → i < (n0 : Int) → i < (c : Int) → ∀ y, f i = some y → zel C μ y) : Met l yJ6_copyOf_2 (ws_ yJ6_copyOf_2 cJ6_copyOf_2 4 (some (.array (.object "java/lang/Object")))) (zR 1 1 c) (va_Pc [.ref a, .int (zI (c : Int)), .ref (zs E 2)] (zPre E μ)) (zQq E (fun r μ' => ∃ b, μ b = none ∧ some b = r ∧ zu μ b (zaq E 3 c (zcp f (fun _ => none) 0 0 (min n0 c))) = μ')) 1 c (zA E) := by
  refine zmetJ (cc := cJ6_copyOf_2) [_, _, _, _] (by decide +kernel) (Nat.le_of_ble_eq_true rfl) rfl rfl ?_
  intro X hl hX hinit; subst hl
  have hX : zOK X _ cJ6_copyOf_2 RJ6 (some (.array (.object "java/lang/Object"))) 4 := hX
  generalize hQ : MQ _ _ _ _ _ _ _ = Q
  refine z_aload_n hX rfl (by first | rfl | exact va_rf_r _) dJ6_copyOf_2_0 ?_
  refine z_ldcM hX hX.T.2.2.2.1 q288 dJ6_copyOf_2_1 ?_
  refine z_acmp_ne hX (r := some (zs E 2)) (q := some (zs E 2)) dJ6_copyOf_2_3 (tgt := 13) rfl (fun h => absurd rfl h) (fun _ => ?_)
  refine z_iload_n hX rfl dJ6_copyOf_2_6 ?_
  refine z_newQ hX 3 c rfl hX.T.2.1 q289 dJ6_copyOf_2_7 rfl (by omega) (by omega) (by omega) (fun q_7 f_7 => ?_)
  have hne := zne ha f_7
  have hmin : min (n0 : Int) (c : Int) ≤ n0 ∧ min (n0 : Int) (c : Int) ≤ c ∧ 0 ≤ min (n0 : Int) (c : Int) := by omega
  refine z_goto hX (tgt := 24) dJ6_copyOf_2_10 rfl ?_
  refine z_astore_n hX (lv' := [_, _, _, _]) (by first | rfl | exact va_rf_r _) (Nat.le_of_ble_eq_true rfl) (by first | exact zpre_0 | exact zpre_n rfl | exact zpre_1 rfl rfl | exact zpre_1 rfl (va_rf_c _)) rfl dJ6_copyOf_2_24 ?_
  refine z_aload_n hX rfl (by first | rfl | exact va_rf_r _) dJ6_copyOf_2_25 ?_
  refine z_iconst hX dJ6_copyOf_2_26 ?_
  refine z_aload_n hX rfl (by first | rfl | exact va_rf_r _) dJ6_copyOf_2_27 ?_
  refine z_iconst hX dJ6_copyOf_2_28 ?_
  refine z_aload_n hX rfl (by first | rfl | exact va_rf_r _) dJ6_copyOf_2_29 ?_
  refine z_arraylength hX (t0 := 3) dJ6_copyOf_2_30 (by first | assumption | exact zu_s _ _ _ | exact zu_o (by assumption) (by assumption) | exact zu_o (by assumption) (zu_o (by assumption) (by assumption))) rfl ?_
  refine z_iload_n hX rfl dJ6_copyOf_2_31 ?_
  refine z_calli (z_runS hX (x_mini _ _ _ (by omega) (by omega)) (va_cwS 2 hX.ts (lw_S q290 q291 q75 q292) rfl rfl rfl (by decide +kernel) (zroom (by decide) (by decide))) dJ6_copyOf_2_32 rfl rfl rfl (by first | exact Nat.le_of_ble_eq_true rfl | simp [va_rf_c, Value.category]) (zhf (by omega) (by omega))) (fun r_32 μ_32 h_32 => ?_)
  obtain ⟨rfl, rfl⟩ := h_32
  refine z_copyq hX 3 3 rfl rfl hca q293 q295 q294 q76 dJ6_copyOf_2_35 (zu_o hne ha) (zu_s _ _ _) (by omega) (fun i i1 i2 y hy => ?_) rfl ⟨Nat.le_of_ble_eq_true rfl, Nat.le_of_ble_eq_true rfl⟩ (Nat.le_of_ble_eq_true rfl) ?_
  · obtain ⟨ci, fs, T, N, m1, m2⟩ := hel i (by omega) (by omega) (by omega) y hy
    exact ⟨ci, fs, T, N, zu_o (zne m1 f_7) m1, m2⟩
  · refine z_aload_n hX rfl (by first | rfl | exact va_rf_r _) dJ6_copyOf_2_38 ?_
    (try rw [← hQ])
    first | refine z_areturn hX (r := some _) rfl (by first | exact Or.inl ⟨_, rfl⟩ | exact Or.inr ⟨_, rfl⟩) dJ6_copyOf_2_39 (by omega) (by omega) ?_ | refine z_areturn hX (r := none) rfl (by first | exact Or.inl ⟨_, rfl⟩ | exact Or.inr ⟨_, rfl⟩) dJ6_copyOf_2_39 (by omega) (by omega) ?_ | refine z_areturn hX rfl (by first | exact Or.inl ⟨_, rfl⟩ | exact Or.inr ⟨_, rfl⟩) dJ6_copyOf_2_39 (by omega) (by omega) ?_
    exact ⟨q_7, f_7, rfl, by rw [zu_zu]⟩
theorem x_copyOf (l : Launch) (E : zE) {μ : zM} {a n0 c : Nat} {f : Int → Option Nat} (ha : μ a = some (zaq E 3 n0 f)) (hn0 : n0 ≤ 1000) (hc : c ≤ 1000) {C : String} (hca : Cond.castable C "java/lang/Object" ∈ lw_tbl) (hel : ∀ i, 0 ≤ i → i < (n0 : Int) → i < (c : Int) → ∀ y, f i = some y → zel C μ y) : Met l yJ6_copyOf (ws_ yJ6_copyOf cJ6_copyOf 2 (some (.array (.object "java/lang/Object")))) (zR 2 1 c) (va_Pc [.ref a, .int (zI (c : Int))] (zPre E μ)) (zQq E (fun r μ' => ∃ b, μ b = none ∧ some b = r ∧ zu μ b (zaq E 3 c (zcp f (fun _ => none) 0 0 (min n0 c))) = μ')) 1 c (zA E) := by
  refine zmetJ (cc := cJ6_copyOf) [_, _] (by decide +kernel) (Nat.le_of_ble_eq_true rfl) rfl rfl ?_
  intro X hl hX hinit; subst hl
  have hX : zOK X _ cJ6_copyOf RJ6 (some (.array (.object "java/lang/Object"))) 2 := hX
  generalize hQ : MQ _ _ _ _ _ _ _ = Q
  refine z_aload_n hX rfl (by first | rfl | exact va_rf_r _) dJ6_copyOf_0 ?_
  refine z_iload_n hX rfl dJ6_copyOf_1 ?_
  refine z_aload_n hX rfl (by first | rfl | exact va_rf_r _) dJ6_copyOf_2 ?_
  refine z_getC hX q261 q1816 q262 q284 dJ6_copyOf_3 ha rfl ⟨Nat.le_of_ble_eq_true rfl, Nat.le_of_ble_eq_true rfl⟩ (Nat.le_of_ble_eq_true rfl) ?_
  refine z_callq (z_runS hX (x_copyOf2 _ _ ha hn0 hc hca hel) (va_cwS 3 hX.ts (lw_S q285 q286 q74 q287) rfl rfl rfl (by decide +kernel) (zroom (by decide) (by decide))) dJ6_copyOf_6 rfl rfl rfl (by first | exact Nat.le_of_ble_eq_true rfl | simp [va_rf_c, Value.category]) (zhf (by omega) (by omega))) (fun r_6 μ_6 h_6 => ?_)
  obtain ⟨b, hb, rfl, rfl⟩ := h_6
  (try rw [← hQ])
  first | refine z_areturn hX (r := some _) rfl (by first | exact Or.inl ⟨_, rfl⟩ | exact Or.inr ⟨_, rfl⟩) dJ6_copyOf_9 (by omega) (by omega) ?_ | refine z_areturn hX (r := none) rfl (by first | exact Or.inl ⟨_, rfl⟩ | exact Or.inr ⟨_, rfl⟩) dJ6_copyOf_9 (by omega) (by omega) ?_ | refine z_areturn hX rfl (by first | exact Or.inl ⟨_, rfl⟩ | exact Or.inr ⟨_, rfl⟩) dJ6_copyOf_9 (by omega) (by omega) ?_
  exact ⟨b, hb, rfl, rfl⟩
theorem x_toArray (l : Launch) (E : zE) {μ : zM} {L arr c : Nat} {rs : List Nat} (h : AL E μ L arr c rs) {C : String} (hca : Cond.castable C "java/lang/Object" ∈ lw_tbl) (hel : ∀ r ∈ rs, zel C μ r) : Met l yJ2_toArray (ws_ yJ2_toArray cJ2_toArray 1 (some (.array (.object "java/lang/Object")))) (zR 3 1 rs.length) (va_Pc [.ref L] (zPre E μ)) (zQq E (fun r μ' => ∃ b g, μ b = none ∧ some b = r ∧ (∀ i : Nat, i < rs.length → g i = rs[i]?) ∧ zu μ b (zaq E 3 rs.length g) = μ')) 1 rs.length (zA E) := by
  obtain ⟨mod, g, h1, h2, h3, h4, h5⟩ := h
  have hel2 : ∀ i, 0 ≤ i → i < (c : Int) → i < (rs.length : Int) → ∀ y, g i = some y → zel C μ y := by
    intro i i0 i1 i2 y hy
    obtain ⟨j, rfl⟩ : ∃ j : Nat, i = j := ⟨i.toNat, by omega⟩
    rw [h5 j (by omega)] at hy
    exact hel y (List.mem_of_getElem? hy)
  refine zmetJ (cc := cJ2_toArray) [_] (by decide +kernel) (Nat.le_of_ble_eq_true rfl) rfl rfl ?_
  intro X hl hX hinit; subst hl
  have hX : zOK X _ cJ2_toArray RJ2 (some (.array (.object "java/lang/Object"))) 1 := hX
  generalize hQ : MQ _ _ _ _ _ _ _ = Q
  refine z_aload_n hX rfl (by first | rfl | exact va_rf_r _) dJ2_toArray_0 ?_
  refine z_get hX (C := RJ2) (T := TJ2) (N := 3) (ci := 17) rfl in_J2 1 (by decide) q123 (Or.inl rfl) dJ2_toArray_1 (by first | assumption | exact zu_s _ _ _ | exact zu_o (by assumption) (by assumption) | exact zu_o (by assumption) (zu_o (by assumption) (by assumption))) rfl ?_
  refine z_aload_n hX rfl (by first | rfl | exact va_rf_r _) dJ2_toArray_4 ?_
  refine z_get hX (C := RJ2) (T := TJ2) (N := 3) (ci := 17) rfl in_J2 2 (by decide) q124 (Or.inl rfl) dJ2_toArray_5 (by first | assumption | exact zu_s _ _ _ | exact zu_o (by assumption) (by assumption) | exact zu_o (by assumption) (zu_o (by assumption) (by assumption))) rfl ?_
  refine z_callq (z_runS hX (x_copyOf _ _ h2 h4 (by omega) hca hel2) (va_cwS 2 hX.ts (lw_S q258 q259 q74 q260) rfl rfl rfl (by decide +kernel) (zroom (by decide) (by decide))) dJ2_toArray_8 rfl rfl rfl (by first | exact Nat.le_of_ble_eq_true rfl | simp [va_rf_c, Value.category]) (zhf (by omega) (by omega))) (fun r_8 μ_8 h_8 => ?_)
  obtain ⟨b, hb, rfl, rfl⟩ := h_8
  (try rw [← hQ])
  first | refine z_areturn hX (r := some _) rfl (by first | exact Or.inl ⟨_, rfl⟩ | exact Or.inr ⟨_, rfl⟩) dJ2_toArray_11 (by omega) (by omega) ?_ | refine z_areturn hX (r := none) rfl (by first | exact Or.inl ⟨_, rfl⟩ | exact Or.inr ⟨_, rfl⟩) dJ2_toArray_11 (by omega) (by omega) ?_ | refine z_areturn hX rfl (by first | exact Or.inl ⟨_, rfl⟩ | exact Or.inr ⟨_, rfl⟩) dJ2_toArray_11 (by omega) (by omega) ?_
  refine ⟨b, _, hb, rfl, fun i hi => ?_, rfl⟩
  rw [zcp, if_pos (by omega), ← h5 i hi]
  congr 1
  omega
/-- the places of a list that has grown: newLength, or ten -/
def grC (d : Bool) (n : Nat) : Nat := if d = true then 10 else n + max 1 (n / 2)
/-- a full list grows: of its own array -/
theorem x_grow2 (l : Launch) (E : zE) {μ : zM} {L arr : Nat} {rs : List Nat} {n : Nat} (hn : rs.length = n) (h : AL E μ L arr n rs) (h1000 : n ≤ 600) (hd : 1 ≤ n ∨ arr ≠ zs E 1) {C : String} (hca : Cond.castable C "java/lang/Object" ∈ lw_tbl) (hel : ∀ r ∈ rs, zel C μ r) : Met l yJ2_grow_2 (ws_ yJ2_grow_2 cJ2_grow_2 4 (some (.array (.object "java/lang/Object")))) (zR 3 1 (n + max 1 (n / 2))) (va_Pc [.ref L, .int (zI ((n : Int) + 1))] (zPre E μ)) (zQq E (fun r μ' => ∃ b, μ b = none ∧ some b = r ∧ AL E μ' L b (n + max 1 (n / 2)) rs ∧ ∀ q, q ≠ L → q ≠ b → μ' q = μ q)) 1 (n + max 1 (n / 2)) (zA E) := by
  obtain ⟨mod, g, h1, h2, h3, h4, h5⟩ := h
  rw [hn] at h1 h5
  have hsh : zI (n : Int) >>> (zI 1 &&& 31) = zI ((n / 2 : Nat) : Int) := by
    have h := zshr (M := n) (v := 1) (by omega) (by omega)
    exact h
  have hel2 : ∀ i, 0 ≤ i → i < (n : Int) → i < ((n + max 1 (n / 2) : Nat) : Int) → ∀ y, g i = some y → zel C μ y := by
    intro i i0 i1 i2 y hy
    obtain ⟨j, rfl⟩ : ∃ j : Nat, i = j := ⟨i.toNat, by omega⟩
    rw [h5 j (by omega)] at hy
    exact hel y (List.mem_of_getElem? hy)
  have hcap : (n : Int) + max ((n : Int) + 1 - n) ((n / 2 : Nat) : Int) = ((n + max 1 (n / 2) : Nat) : Int) := by omega
  refine zmetJ (cc := cJ2_grow_2) [_, _, _, _] (by decide +kernel) (Nat.le_of_ble_eq_true rfl) rfl rfl ?_
  intro X hl hX hinit; subst hl
  have hX : zOK X _ cJ2_grow_2 RJ2 (some (.array (.object "java/lang/Object"))) 4 := hX
  generalize hQ : MQ _ _ _ _ _ _ _ = Q
  have main : zW X (zR 3 1 (n + max 1 (n / 2))) E (μ) 0 0 Q 20 [some (.ref L), some (.int (zI ((n : Int) + 1))), some (.int (zI (n : Int))), none] [] := by
    refine z_iload_n hX rfl dJ2_grow_2_20 ?_
    refine z_iload_n hX rfl dJ2_grow_2_21 ?_
    refine z_iload_n hX rfl dJ2_grow_2_22 ?_
    refine z_isub hX dJ2_grow_2_23 ?_
    refine z_iload_n hX rfl dJ2_grow_2_24 ?_
    refine z_iconst hX dJ2_grow_2_25 ?_
    refine z_ishr hX (z := ((n/2:Nat):Int)) hsh dJ2_grow_2_26 ?_
    refine z_calli (z_runS hX (x_newLen _ _ _ (by omega) (by omega) (by omega)) (va_cwS 3 hX.ts (lw_S q393 q394 q77 q395) rfl rfl rfl (by decide +kernel) (zroom (by decide) (by decide))) dJ2_grow_2_27 rfl rfl rfl (by first | exact Nat.le_of_ble_eq_true rfl | simp [va_rf_c, Value.category]) (zhf (by omega) (by omega))) (fun r_27 μ_27 h_27 => ?_)
    obtain ⟨rfl, rfl⟩ := h_27; rw [hcap]
    refine z_istore_n hX (lv' := [_, _, _, _]) (Nat.le_of_ble_eq_true rfl) (by first | exact zpre_0 | exact zpre_n rfl | exact zpre_1 rfl rfl | exact zpre_1 rfl (va_rf_c _)) rfl dJ2_grow_2_30 ?_
    refine z_aload_n hX rfl (by first | rfl | exact va_rf_r _) dJ2_grow_2_31 ?_
    refine z_aload_n hX rfl (by first | rfl | exact va_rf_r _) dJ2_grow_2_32 ?_
    refine z_get hX (C := RJ2) (T := TJ2) (N := 3) (ci := 17) rfl in_J2 1 (by decide) q123 (Or.inl rfl) dJ2_grow_2_33 (by first | assumption | exact zu_s _ _ _ | exact zu_o (by assumption) (by assumption) | exact zu_o (by assumption) (zu_o (by assumption) (by assumption))) rfl ?_
    refine z_iload_n hX rfl dJ2_grow_2_36 ?_
    refine z_callq (z_runS hX (x_copyOf _ _ h2 (by omega) (by omega) hca hel2) (va_cwS 2 hX.ts (lw_S q258 q259 q74 q260) rfl rfl rfl (by decide +kernel) (zroom (by decide) (by decide))) dJ2_grow_2_37 rfl rfl rfl (by first | exact Nat.le_of_ble_eq_true rfl | simp [va_rf_c, Value.category]) (zhf (by omega) (by omega))) (fun r_37 μ_37 h_37 => ?_)
    obtain ⟨b, hb, rfl, rfl⟩ := h_37; have hLb := zne h1 hb
    refine z_dup_x1 hX (by first | rfl | exact va_rf_c _) (by first | rfl | exact va_rf_c _) dJ2_grow_2_40 ?_
    refine z_put hX (C := RJ2) (T := TJ2) (N := 3) (ci := 17) rfl in_J2 tyJ2 tyJ2_ok zn_J2 1 (by decide) q123 (Or.inl rfl) rfl rfl dJ2_grow_2_41 (by first | assumption | exact zu_s _ _ _ | exact zu_o (by assumption) (by assumption) | exact zu_o (by assumption) (zu_o (by assumption) (by assumption))) (Nat.le_of_ble_eq_true rfl) (by first | rfl | exact znar _ | exact znarb _) (by first | rfl | exact zfit _ | exact zfitb _) rfl ?_
    (try rw [← hQ])
    first | refine z_areturn hX (r := some _) rfl (by first | exact Or.inl ⟨_, rfl⟩ | exact Or.inr ⟨_, rfl⟩) dJ2_grow_2_44 (by omega) (by omega) ?_ | refine z_areturn hX (r := none) rfl (by first | exact Or.inl ⟨_, rfl⟩ | exact Or.inr ⟨_, rfl⟩) dJ2_grow_2_44 (by omega) (by omega) ?_ | refine z_areturn hX rfl (by first | exact Or.inl ⟨_, rfl⟩ | exact Or.inr ⟨_, rfl⟩) dJ2_grow_2_44 (by omega) (by omega) ?_
    refine ⟨b, hb, rfl, ⟨mod, _, zu_s _ _ _ |>.trans ?_, zu_o (Ne.symm hLb) (zu_s _ _ _), by omega, by omega, fun i hi => ?_⟩, fun q q1 q2 => ?_⟩
    · rw [hn]; rfl
    · rw [hn] at hi
      rw [zcp, if_pos (by omega), ← h5 i hi]
      congr 1
      omega
    · rw [zu_n q1, zu_n q2]
  refine z_aload_n hX rfl (by first | rfl | exact va_rf_r _) dJ2_grow_2_0 ?_
  refine z_get hX (C := RJ2) (T := TJ2) (N := 3) (ci := 17) rfl in_J2 1 (by decide) q123 (Or.inl rfl) dJ2_grow_2_1 (by first | assumption | exact zu_s _ _ _ | exact zu_o (by assumption) (by assumption) | exact zu_o (by assumption) (zu_o (by assumption) (by assumption))) rfl ?_
  refine z_arraylength hX (t0 := 3) dJ2_grow_2_4 (by first | assumption | exact zu_s _ _ _ | exact zu_o (by assumption) (by assumption) | exact zu_o (by assumption) (zu_o (by assumption) (by assumption))) rfl ?_
  refine z_istore_n hX (lv' := [_, _, _, _]) (Nat.le_of_ble_eq_true rfl) (by first | exact zpre_0 | exact zpre_n rfl | exact zpre_1 rfl rfl | exact zpre_1 rfl (va_rf_c _)) rfl dJ2_grow_2_5 ?_
  refine z_iload_n hX rfl dJ2_grow_2_6 ?_
  refine z_if_gt hX (by omega) dJ2_grow_2_7 (tgt := 20) rfl (fun h_7 => ?_) (fun h_7 => ?_)
  · exact main
  · refine z_aload_n hX rfl (by first | rfl | exact va_rf_r _) dJ2_grow_2_10 ?_
    refine z_get hX (C := RJ2) (T := TJ2) (N := 3) (ci := 17) rfl in_J2 1 (by decide) q123 (Or.inl rfl) dJ2_grow_2_11 (by first | assumption | exact zu_s _ _ _ | exact zu_o (by assumption) (by assumption) | exact zu_o (by assumption) (zu_o (by assumption) (by assumption))) rfl ?_
    refine z_gets hX hX.S.2.1 q391 dJ2_grow_2_14 ?_
    refine z_acmp_eq hX (r := some arr) (q := some (zs E 1)) dJ2_grow_2_17 (tgt := 45) rfl (fun h => ?_) (fun _ => main)
    exfalso
    have h7 : (n : Int) ≤ 0 := by
      have := h_7
      omega
    rcases hd with h | h'
    · omega
    · exact h' (Option.some.inj h)
/-- the first growth of a list made without a size -/
theorem x_grow0 (l : Launch) (E : zE) {μ : zM} {L : Nat} (h : AL E μ L (zs E 1) 0 []) : Met l yJ2_grow_2 (ws_ yJ2_grow_2 cJ2_grow_2 4 (some (.array (.object "java/lang/Object")))) (zR 3 1 10) (va_Pc [.ref L, .int (zI 1)] (zPre E μ)) (zQq E (fun r μ' => ∃ b, μ b = none ∧ some b = r ∧ AL E μ' L b 10 [] ∧ ∀ q, q ≠ L → q ≠ b → μ' q = μ q)) 1 10 (zA E) := by
  obtain ⟨mod, g, h1, h2, h3, h4, h5⟩ := h
  refine zmetJ (cc := cJ2_grow_2) [_, _, _, _] (by decide +kernel) (Nat.le_of_ble_eq_true rfl) rfl rfl ?_
  intro X hl hX hinit; subst hl
  have hX : zOK X _ cJ2_grow_2 RJ2 (some (.array (.object "java/lang/Object"))) 4 := hX
  generalize hQ : MQ _ _ _ _ _ _ _ = Q
  refine z_aload_n hX rfl (by first | rfl | exact va_rf_r _) dJ2_grow_2_0 ?_
  refine z_get hX (C := RJ2) (T := TJ2) (N := 3) (ci := 17) rfl in_J2 1 (by decide) q123 (Or.inl rfl) dJ2_grow_2_1 (by first | assumption | exact zu_s _ _ _ | exact zu_o (by assumption) (by assumption) | exact zu_o (by assumption) (zu_o (by assumption) (by assumption))) rfl ?_
  refine z_arraylength hX (t0 := 3) dJ2_grow_2_4 (by first | assumption | exact zu_s _ _ _ | exact zu_o (by assumption) (by assumption) | exact zu_o (by assumption) (zu_o (by assumption) (by assumption))) rfl ?_
  refine z_istore_n hX (lv' := [_, _, _, _]) (Nat.le_of_ble_eq_true rfl) (by first | exact zpre_0 | exact zpre_n rfl | exact zpre_1 rfl rfl | exact zpre_1 rfl (va_rf_c _)) rfl dJ2_grow_2_5 ?_
  refine z_iload_n hX rfl dJ2_grow_2_6 ?_
  refine z_if_gt hX (by omega) dJ2_grow_2_7 (tgt := 20) rfl (fun h_7 => ?_) (fun h_7 => ?_)
  · exact absurd h_7 (by show ¬ (0 : Int) < ((0 : Nat) : Int); omega)
  · refine z_aload_n hX rfl (by first | rfl | exact va_rf_r _) dJ2_grow_2_10 ?_
    refine z_get hX (C := RJ2) (T := TJ2) (N := 3) (ci := 17) rfl in_J2 1 (by decide) q123 (Or.inl rfl) dJ2_grow_2_11 (by first | assumption | exact zu_s _ _ _ | exact zu_o (by assumption) (by assumption) | exact zu_o (by assumption) (zu_o (by assumption) (by assumption))) rfl ?_
    refine z_gets hX hX.S.2.1 q391 dJ2_grow_2_14 ?_
    refine z_acmp_eq hX (r := some (zs E 1)) (q := some (zs E 1)) dJ2_grow_2_17 (tgt := 45) rfl (fun _ => ?_) (fun h => absurd rfl h)
    refine z_aload_n hX rfl (by first | rfl | exact va_rf_r _) dJ2_grow_2_45 ?_
    refine z_bipush hX (by decide) dJ2_grow_2_46 ?_
    refine z_iload_n hX rfl dJ2_grow_2_48 ?_
    refine z_calli (z_runS hX (x_maxi _ _ _ (by omega) (by omega)) (va_cwS 2 hX.ts (lw_S q403 q397 q75 q398) rfl rfl rfl (by decide +kernel) (zroom (by decide) (by decide))) dJ2_grow_2_49 rfl rfl rfl (by first | exact Nat.le_of_ble_eq_true rfl | simp [va_rf_c, Value.category]) (zhf (by omega) (by omega))) (fun r_49 μ_49 h_49 => ?_)
    obtain ⟨rfl, rfl⟩ := h_49; rw [show max (10 : Int) 1 = 10 by omega]
    refine z_newQ hX 3 10 rfl hX.T.2.1 q119 dJ2_grow_2_52 rfl (by decide) (by omega) (by omega) (fun q_52 f_52 => ?_)
    have hLb := zne h1 f_52
    refine z_dup_x1 hX (by first | rfl | exact va_rf_c _) (by first | rfl | exact va_rf_c _) dJ2_grow_2_55 ?_
    refine z_put hX (C := RJ2) (T := TJ2) (N := 3) (ci := 17) rfl in_J2 tyJ2 tyJ2_ok zn_J2 1 (by decide) q123 (Or.inl rfl) rfl rfl dJ2_grow_2_56 (by first | assumption | exact zu_s _ _ _ | exact zu_o (by assumption) (by assumption) | exact zu_o (by assumption) (zu_o (by assumption) (by assumption))) (Nat.le_of_ble_eq_true rfl) (by first | rfl | exact znar _ | exact znarb _) (by first | rfl | exact zfit _ | exact zfitb _) rfl ?_
    (try rw [← hQ])
    first | refine z_areturn hX (r := some _) rfl (by first | exact Or.inl ⟨_, rfl⟩ | exact Or.inr ⟨_, rfl⟩) dJ2_grow_2_59 (by omega) (by omega) ?_ | refine z_areturn hX (r := none) rfl (by first | exact Or.inl ⟨_, rfl⟩ | exact Or.inr ⟨_, rfl⟩) dJ2_grow_2_59 (by omega) (by omega) ?_ | refine z_areturn hX rfl (by first | exact Or.inl ⟨_, rfl⟩ | exact Or.inr ⟨_, rfl⟩) dJ2_grow_2_59 (by omega) (by omega) ?_
    exact ⟨q_52, f_52, rfl, ⟨mod, _, (zu_s _ _ _).trans rfl, zu_o (Ne.symm hLb) (zu_s _ _ _), by simp, by omega, fun i hi => absurd hi (by simp)⟩, fun q q1 q2 => by rw [zu_n q1, zu_n q2]⟩
