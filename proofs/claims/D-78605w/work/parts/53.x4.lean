/-! X SIDE 4: ArrayList -/
set_option maxRecDepth 100000
abbrev zal (mod : Int) (arr : Nat) (n : Int) : va_E := zob 17 [.int (zI mod), .ref arr, .int (zI n)]
/-- the list at L keeps rs in the array arr of c places -/
def AL (E : zE) (μ : zM) (L arr c : Nat) (rs : List Nat) : Prop := ∃ (mod : Int) (g : Int → Option Nat), μ L = some (zal mod arr rs.length) ∧ μ arr = some (zaq E 3 c g) ∧ rs.length ≤ c ∧ c ≤ 1000 ∧ ∀ i : Nat, i < rs.length → g i = rs[i]?
theorem AL.ne {E : zE} {μ : zM} {L arr c : Nat} {rs : List Nat} (h : AL E μ L arr c rs) : L ≠ arr := by
  obtain ⟨mod, g, h1, h2, -⟩ := h
  intro q
  rw [q, h2] at h1
  cases h1
theorem AL.frame {E : zE} {μ μ' : zM} {L arr c : Nat} {rs : List Nat} (h : AL E μ L arr c rs) (h1 : μ' L = μ L) (h2 : μ' arr = μ arr) : AL E μ' L arr c rs := by
  obtain ⟨mod, g, a1, a2, a3⟩ := h
  exact ⟨mod, g, h1.trans a1, h2.trans a2, a3⟩
theorem x_size (l : Launch) (E : zE) {μ : zM} {L arr c : Nat} {rs : List Nat} (h : AL E μ L arr c rs) : Met l yJ2_size (ws_ yJ2_size cJ2_size 1 (some .int)) (zR 0 0 0) (va_Pc [.ref L] (zPre E μ)) (zQi E (fun r μ' => μ = μ' ∧ (rs.length : Int) = r)) 0 0 (zA E) := by
  obtain ⟨mod, g, h1, h2, h3, h4, h5⟩ := h
  refine zmetJ (cc := cJ2_size) [_] (by decide +kernel) (Nat.le_of_ble_eq_true rfl) rfl rfl ?_
  intro X hl hX hinit; subst hl
  have hX : zOK X _ cJ2_size RJ2 (some .int) 1 := hX
  refine z_aload_n hX rfl (by first | rfl | exact va_rf_r _) dJ2_size_0 ?_
  refine z_get hX (C := RJ2) (T := TJ2) (N := 3) (ci := 17) rfl in_J2 2 (by decide) q124 (Or.inl rfl) dJ2_size_1 (by first | assumption | exact zu_s _ _ _ | exact zu_o (by assumption) (by assumption) | exact zu_o (by assumption) (zu_o (by assumption) (by assumption))) rfl ?_
  (try rw [← hQ])
  refine z_ireturn hX dJ2_size_4 (by omega) (by omega) ?_
  exact ⟨rfl, rfl⟩
theorem x_ck0 (l : Launch) (E : zE) (μ : zM) {i n : Int} (h : 0 ≤ i ∧ i < n ∧ n ≤ 100000) : Met l yJ10_checkIndex (ws_ yJ10_checkIndex cJ10_checkIndex 3 (some .int)) (zR 0 0 0) (va_Pc [.int (zI i), .int (zI n), .null] (zPre E μ)) (zQi E (fun r μ' => μ = μ' ∧ i = r)) 0 0 (zA E) := by
  refine zmetJ (cc := cJ10_checkIndex) [_, _, _] (by decide +kernel) (Nat.le_of_ble_eq_true rfl) rfl rfl ?_
  intro X hl hX hinit; subst hl
  have hX : zOK X _ cJ10_checkIndex RJ10 (some .int) 3 := hX
  refine z_iload_n hX rfl dJ10_checkIndex_0 ?_
  refine z_if_lt hX (by omega) dJ10_checkIndex_1 (tgt := 9) rfl (fun h_1 => ?_) (fun h_1 => ?_)
  · exact absurd h_1 (by omega)
  · refine z_iload_n hX rfl dJ10_checkIndex_4 ?_
    refine z_iload_n hX rfl dJ10_checkIndex_5 ?_
    refine z_icmp_lt hX (by omega) (by omega) dJ10_checkIndex_6 (tgt := 16) rfl (fun h_6 => ?_) (fun h_6 => ?_)
    · refine z_iload_n hX rfl dJ10_checkIndex_16 ?_
      (try rw [← hQ])
      refine z_ireturn hX dJ10_checkIndex_17 (by omega) (by omega) ?_
      exact ⟨rfl, rfl⟩
    · exact absurd h.2.1 (by omega)
theorem x_ck (l : Launch) (E : zE) (μ : zM) {i n : Int} (h : 0 ≤ i ∧ i < n ∧ n ≤ 100000) : Met l yJ9_checkIndex (ws_ yJ9_checkIndex cJ9_checkIndex 2 (some .int)) (zR 1 0 0) (va_Pc [.int (zI i), .int (zI n)] (zPre E μ)) (zQi E (fun r μ' => μ = μ' ∧ i = r)) 0 0 (zA E) := by
  refine zmetJ (cc := cJ9_checkIndex) [_, _] (by decide +kernel) (Nat.le_of_ble_eq_true rfl) rfl rfl ?_
  intro X hl hX hinit; subst hl
  have hX : zOK X _ cJ9_checkIndex RJ9 (some .int) 2 := hX
  refine z_iload_n hX rfl dJ9_checkIndex_0 ?_
  refine z_iload_n hX rfl dJ9_checkIndex_1 ?_
  refine z_null hX dJ9_checkIndex_2 ?_
  refine z_calli (z_runS hX (x_ck0 _ _ _ h) (va_cwS 3 hX.ts (lw_S q419 q420 q79 q421) rfl rfl rfl (by decide +kernel) (zroom (by decide) (by decide))) dJ9_checkIndex_3 rfl rfl rfl (by first | exact Nat.le_of_ble_eq_true rfl | simp [va_rf_c, Value.category]) (zhf (by omega) (by omega))) (fun r_3 μ_3 h_3 => ?_)
  obtain ⟨rfl, rfl⟩ := h_3
  (try rw [← hQ])
  refine z_ireturn hX dJ9_checkIndex_6 (by omega) (by omega) ?_
  exact ⟨rfl, rfl⟩
theorem x_elem (l : Launch) (E : zE) {μ : zM} {L arr c : Nat} {rs : List Nat} (h : AL E μ L arr c rs) {i : Nat} (hi : i < rs.length) : Met l yJ2_elementData (ws_ yJ2_elementData cJ2_elementData 2 (some (.object "java/lang/Object"))) (zR 0 0 0) (va_Pc [.ref L, .int (zI (i : Int))] (zPre E μ)) (zQq E (fun r μ' => μ = μ' ∧ rs[i]? = r)) 0 0 (zA E) := by
  obtain ⟨mod, g, h1, h2, h3, h4, h5⟩ := h
  refine zmetJ (cc := cJ2_elementData) [_, _] (by decide +kernel) (Nat.le_of_ble_eq_true rfl) rfl rfl ?_
  intro X hl hX hinit; subst hl
  have hX : zOK X _ cJ2_elementData RJ2 (some (.object "java/lang/Object")) 2 := hX
  refine z_aload_n hX rfl (by first | rfl | exact va_rf_r _) dJ2_elementData_0 ?_
  refine z_get hX (C := RJ2) (T := TJ2) (N := 3) (ci := 17) rfl in_J2 1 (by decide) q123 (Or.inl rfl) dJ2_elementData_1 (by first | assumption | exact zu_s _ _ _ | exact zu_o (by assumption) (by assumption) | exact zu_o (by assumption) (zu_o (by assumption) (by assumption))) rfl ?_
  refine z_iload_n hX rfl dJ2_elementData_4 ?_
  refine z_aaload hX 3 rfl dJ2_elementData_5 (by first | assumption | exact zu_s _ _ _ | exact zu_o (by assumption) (by assumption) | exact zu_o (by assumption) (zu_o (by assumption) (by assumption))) (by omega) ?_
  (try rw [← hQ])
  first | refine z_areturn hX (r := some _) rfl (by first | exact Or.inl ⟨_, rfl⟩ | exact Or.inr ⟨_, rfl⟩) dJ2_elementData_6 (by omega) (by omega) ?_ | refine z_areturn hX (r := none) rfl (by first | exact Or.inl ⟨_, rfl⟩ | exact Or.inr ⟨_, rfl⟩) dJ2_elementData_6 (by omega) (by omega) ?_ | refine z_areturn hX rfl (by first | exact Or.inl ⟨_, rfl⟩ | exact Or.inr ⟨_, rfl⟩) dJ2_elementData_6 (by omega) (by omega) ?_
  exact ⟨rfl, (h5 i hi).symm⟩
theorem x_get (l : Launch) (E : zE) {μ : zM} {L arr c : Nat} {rs : List Nat} (h : AL E μ L arr c rs) {i : Nat} (hi : i < rs.length) : Met l yJ2_get (ws_ yJ2_get cJ2_get 2 (some (.object "java/lang/Object"))) (zR 2 0 0) (va_Pc [.ref L, .int (zI (i : Int))] (zPre E μ)) (zQq E (fun r μ' => μ = μ' ∧ rs[i]? = r)) 0 0 (zA E) := by
  have h' := h
  obtain ⟨mod, g, h1, h2, h3, h4, h5⟩ := h
  refine zmetJ (cc := cJ2_get) [_, _] (by decide +kernel) (Nat.le_of_ble_eq_true rfl) rfl rfl ?_
  intro X hl hX hinit; subst hl
  have hX : zOK X _ cJ2_get RJ2 (some (.object "java/lang/Object")) 2 := hX
  refine z_iload_n hX rfl dJ2_get_0 ?_
  refine z_aload_n hX rfl (by first | rfl | exact va_rf_r _) dJ2_get_1 ?_
  refine z_get hX (C := RJ2) (T := TJ2) (N := 3) (ci := 17) rfl in_J2 2 (by decide) q124 (Or.inl rfl) dJ2_get_2 (by first | assumption | exact zu_s _ _ _ | exact zu_o (by assumption) (by assumption) | exact zu_o (by assumption) (zu_o (by assumption) (by assumption))) rfl ?_
  refine z_calli (z_runS hX (x_ck _ _ _ (by omega)) (va_cwS 2 hX.ts (lw_S q416 q417 q78 q418) rfl rfl rfl (by decide +kernel) (zroom (by decide) (by decide))) dJ2_get_5 rfl rfl rfl (by first | exact Nat.le_of_ble_eq_true rfl | simp [va_rf_c, Value.category]) (zhf (by omega) (by omega))) (fun r_5 μ_5 h_5 => ?_)
  obtain ⟨rfl, rfl⟩ := h_5
  refine z_pop hX (by first | rfl | exact va_rf_c _) dJ2_get_8 ?_
  refine z_aload_n hX rfl (by first | rfl | exact va_rf_r _) dJ2_get_9 ?_
  refine z_iload_n hX rfl dJ2_get_10 ?_
  refine z_callq (z_runV hX (x_elem _ _ h' hi) (cwV 1 hX.ts (lw_V q435 q436 q437 q68 q438) rfl rfl rfl (by decide +kernel) (zroom (by decide) (by decide))) dJ2_get_11 (by first | assumption | exact zu_s _ _ _ | exact zu_o (by assumption) (by assumption) | exact zu_o (by assumption) (zu_o (by assumption) (by assumption))) (ci := 17) rfl rfl rfl rfl (by first | exact Nat.le_of_ble_eq_true rfl | simp [va_rf_c, Value.category]) (zhf (by omega) (by omega))) (fun r_11 μ_11 h_11 => ?_)
  obtain ⟨rfl, rfl⟩ := h_11
  (try rw [← hQ])
  first | refine z_areturn hX (r := some _) rfl (by first | exact Or.inl ⟨_, rfl⟩ | exact Or.inr ⟨_, rfl⟩) dJ2_get_14 (by omega) (by omega) ?_ | refine z_areturn hX (r := none) rfl (by first | exact Or.inl ⟨_, rfl⟩ | exact Or.inr ⟨_, rfl⟩) dJ2_get_14 (by omega) (by omega) ?_ | refine z_areturn hX rfl (by first | exact Or.inl ⟨_, rfl⟩ | exact Or.inr ⟨_, rfl⟩) dJ2_get_14 (by omega) (by omega) ?_
  exact ⟨rfl, rfl⟩
