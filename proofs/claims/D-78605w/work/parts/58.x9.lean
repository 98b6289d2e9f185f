/-! X SIDE 9: ArrayList: remove, clear -/
set_option maxRecDepth 100000
theorem x_clear (l : Launch) (E : zE) {μ : zM} {L arr c : Nat} {rs : List Nat} (h : AL E μ L arr c rs) : Met l yJ2_clear (ws_ yJ2_clear cJ2_clear 4 none) (zR 1 0 0) (va_Pc [.ref L] (zPre E μ)) (zQv E (fun μ' => AL E μ' L arr c [] ∧ ∀ q, q ≠ L → q ≠ arr → μ' q = μ q)) 0 0 (zA E) := by
  have hne := h.ne
  have hne2 := Ne.symm hne
  obtain ⟨mod, g, h1, h2, h3, h4, h5⟩ := h
  refine zmetJ (cc := cJ2_clear) [_, _, _, _] (by decide +kernel) (Nat.le_of_ble_eq_true rfl) rfl rfl ?_
  intro X hl hX hinit; subst hl
  have hX : zOK X _ cJ2_clear RJ2 none 4 := hX
  generalize hQ : MQ _ _ _ _ _ _ _ = Q
  have loop : ∀ (k : Nat) (i : Int) (μ1 : zM) (g1 : Int → Option Nat), 0 ≤ i → i ≤ rs.length → rs.length < i + k → μ1 L = some (zal (mod + 1) arr 0) → μ1 arr = some (zaq E 3 c g1) → (∀ q, q ≠ L → q ≠ arr → μ1 q = μ q) → zW X (zR 1 0 0) E (μ1) 0 0 Q 27 [some (.ref L), some (.ref arr), some (.int (zI (rs.length : Int))), some (.int (zI i))] [] := by
    intro k
    induction k with
    | zero => intros; exfalso; omega
    | succ k ih =>
      intro i μ1 g1 i0 i1 hk a1 a2 a3
      refine z_iload_n hX rfl dJ2_clear_27 ?_
      refine z_iload_n hX rfl dJ2_clear_28 ?_
      refine z_icmp_ge hX (by omega) (by omega) dJ2_clear_29 (tgt := 42) rfl (fun h_29 => ?_) (fun h_29 => ?_)
      · (try rw [← hQ])
        refine z_return hX dJ2_clear_42 (by omega) (by omega) ?_
        exact ⟨⟨mod + 1, g1, a1, a2, by simp, h4, fun i hi => absurd hi (by simp)⟩, a3⟩
      · refine z_aload_n hX rfl (by first | rfl | exact va_rf_r _) dJ2_clear_32 ?_
        refine z_iload_n hX rfl dJ2_clear_33 ?_
        refine z_null hX dJ2_clear_34 ?_
        refine z_aastoreN hX 3 rfl dJ2_clear_35 (by first | assumption | exact zu_s _ _ _ | exact zu_o (by assumption) (by assumption) | exact zu_o (by assumption) (zu_o (by assumption) (by assumption))) (by omega) ?_
        refine z_iinc hX (lv' := [_, _, _, _]) rfl (Nat.le_of_ble_eq_true rfl) (by first | exact zpre_0 | exact zpre_n rfl | exact zpre_1 rfl rfl | exact zpre_1 rfl (va_rf_c _)) rfl dJ2_clear_36 ?_
        refine z_goto hX (tgt := 27) dJ2_clear_39 rfl ?_
        exact ih (i + 1) _ _ (by omega) (by omega) (by omega) ((zu_n hne).trans a1) (zu_s _ _ _) (fun q q1 q2 => (zu_n q2).trans (a3 q q1 q2))
  refine z_aload_n hX rfl (by first | rfl | exact va_rf_r _) dJ2_clear_0 ?_
  refine z_dup hX (by first | rfl | exact va_rf_c _) dJ2_clear_1 ?_
  refine z_get hX (C := RJ2) (T := TJ2) (N := 3) (ci := 17) rfl in_J2 0 (by decide) q128 (Or.inr q129) dJ2_clear_2 (by first | assumption | exact zu_s _ _ _ | exact zu_o (by assumption) (by assumption) | exact zu_o (by assumption) (zu_o (by assumption) (by assumption))) rfl ?_
  refine z_iconst hX dJ2_clear_5 ?_
  refine z_iadd hX dJ2_clear_6 ?_
  refine z_put hX (C := RJ2) (T := TJ2) (N := 3) (ci := 17) rfl in_J2 tyJ2 tyJ2_ok zn_J2 0 (by decide) q128 (Or.inr q129) rfl rfl dJ2_clear_7 (by first | assumption | exact zu_s _ _ _ | exact zu_o (by assumption) (by assumption) | exact zu_o (by assumption) (zu_o (by assumption) (by assumption))) (Nat.le_of_ble_eq_true rfl) (by first | rfl | exact znar _ | exact znarb _) (by first | rfl | exact zfit _ | exact zfitb _) rfl ?_
  refine z_aload_n hX rfl (by first | rfl | exact va_rf_r _) dJ2_clear_10 ?_
  refine z_get hX (C := RJ2) (T := TJ2) (N := 3) (ci := 17) rfl in_J2 1 (by decide) q123 (Or.inl rfl) dJ2_clear_11 (by first | assumption | exact zu_s _ _ _ | exact zu_o (by assumption) (by assumption) | exact zu_o (by assumption) (zu_o (by assumption) (by assumption))) rfl ?_
  refine z_astore_n hX (lv' := [_, _, _, _]) (by first | rfl | exact va_rf_r _) (Nat.le_of_ble_eq_true rfl) (by first | exact zpre_0 | exact zpre_n rfl | exact zpre_1 rfl rfl | exact zpre_1 rfl (va_rf_c _)) rfl dJ2_clear_14 ?_
  refine z_aload_n hX rfl (by first | rfl | exact va_rf_r _) dJ2_clear_15 ?_
  refine z_get hX (C := RJ2) (T := TJ2) (N := 3) (ci := 17) rfl in_J2 2 (by decide) q124 (Or.inl rfl) dJ2_clear_16 (by first | assumption | exact zu_s _ _ _ | exact zu_o (by assumption) (by assumption) | exact zu_o (by assumption) (zu_o (by assumption) (by assumption))) rfl ?_
  refine z_istore_n hX (lv' := [_, _, _, _]) (Nat.le_of_ble_eq_true rfl) (by first | exact zpre_0 | exact zpre_n rfl | exact zpre_1 rfl rfl | exact zpre_1 rfl (va_rf_c _)) rfl dJ2_clear_19 ?_
  refine z_aload_n hX rfl (by first | rfl | exact va_rf_r _) dJ2_clear_20 ?_
  refine z_iconst hX dJ2_clear_21 ?_
  refine z_dup_x1 hX (by first | rfl | exact va_rf_c _) (by first | rfl | exact va_rf_c _) dJ2_clear_22 ?_
  refine z_put hX (C := RJ2) (T := TJ2) (N := 3) (ci := 17) rfl in_J2 tyJ2 tyJ2_ok zn_J2 2 (by decide) q124 (Or.inl rfl) rfl rfl dJ2_clear_23 (by first | assumption | exact zu_s _ _ _ | exact zu_o (by assumption) (by assumption) | exact zu_o (by assumption) (zu_o (by assumption) (by assumption))) (Nat.le_of_ble_eq_true rfl) (by first | rfl | exact znar _ | exact znarb _) (by first | rfl | exact zfit _ | exact zfitb _) rfl ?_
  refine z_istore_n hX (lv' := [_, _, _, _]) (Nat.le_of_ble_eq_true rfl) (by first | exact zpre_0 | exact zpre_n rfl | exact zpre_1 rfl rfl | exact zpre_1 rfl (va_rf_c _)) rfl dJ2_clear_26 ?_
  exact loop (rs.length + 1) 0 _ g (by omega) (by omega) (by omega) ((zu_s _ _ _).trans rfl) (by rw [zu_n hne2, zu_n hne2]; exact h2) (fun q q1 q2 => by rw [zu_n q1, zu_n q1])
theorem x_fastRemove (l : Launch) (E : zE) {μ : zM} {L arr c : Nat} {rs : List Nat} (h : AL E μ L arr c rs) {i : Nat} (hi : i < rs.length) {C : String} (hca : Cond.castable C "java/lang/Object" ∈ lw_tbl) (hel : ∀ r ∈ rs, zel C μ r) (hLn : ∀ r ∈ rs, r ≠ L) : Met l yJ2_fastRemove (ws_ yJ2_fastRemove cJ2_fastRemove 4 none) (zR 1 0 0) (va_Pc [.ref L, .ref arr, .int (zI (i : Int))] (zPre E μ)) (zQv E (fun μ' => AL E μ' L arr c (rs.eraseIdx i) ∧ ∀ q, q ≠ L → q ≠ arr → μ' q = μ q)) 0 0 (zA E) := by
  have hne := h.ne
  have hne2 := Ne.symm hne
  obtain ⟨mod, g, h1, h2, h3, h4, h5⟩ := h
  have hlen : (rs.eraseIdx i).length = rs.length - 1 := List.length_eraseIdx_of_lt hi
  have h2' : ∀ e, zu μ L e arr = some (zaq E 3 c g) := fun e => (zu_n hne2).trans h2
  have hI : ((rs.length : Int) - 1) = ((rs.length - 1 : Nat) : Int) := by omega
  have fin : ∀ (μ1 : zM) (g1 g2 : Int → Option Nat), μ1 L = some (zal (mod + 1) arr ((rs.length : Int) - 1)) → μ1 arr = some (zaq E 3 c g2) → (∀ j : Nat, j < rs.length - 1 → g2 j = if j < i then rs[j]? else rs[j + 1]?) → (∀ q, q ≠ L → q ≠ arr → μ1 q = μ q) → AL E μ1 L arr c (rs.eraseIdx i) ∧ ∀ q, q ≠ L → q ≠ arr → μ1 q = μ q := by
    intro μ1 g1 g2 a1 a2 a3 a4
    refine ⟨⟨mod + 1, g2, by rw [a1, hlen, hI], a2, by omega, h4, fun j hj => ?_⟩, a4⟩
    rw [a3 j (by omega), List.getElem?_eraseIdx]
  refine zmetJ (cc := cJ2_fastRemove) [_, _, _, _] (by decide +kernel) (Nat.le_of_ble_eq_true rfl) rfl rfl ?_
  intro X hl hX hinit; subst hl
  have hX : zOK X _ cJ2_fastRemove RJ2 none 4 := hX
  generalize hQ : MQ _ _ _ _ _ _ _ = Q
  have tail : ∀ (μ1 : zM) (g2 : Int → Option Nat), μ1 L = some (zal (mod + 1) arr rs.length) → μ1 arr = some (zaq E 3 c g2) → (∀ j : Nat, j < rs.length - 1 → g2 j = if j < i then rs[j]? else rs[j + 1]?) → (∀ q, q ≠ L → q ≠ arr → μ1 q = μ q) → zW X (zR 1 0 0) E (μ1) 0 0 Q 34 [some (.ref L), some (.ref arr), some (.int (zI (i : Int))), some (.int (zI ((rs.length : Int) - 1)))] [] := by
    intro μ1 g2 a1 a2 a3 a4
    have a2' : ∀ e, zu μ1 L e arr = some (zaq E 3 c g2) := fun e => (zu_n hne2).trans a2
    have a2'' := a2' (zob 17 [.int (zI (mod + 1)), .ref arr, .int (zI ((rs.length : Int) - 1))])
    refine z_aload_n hX rfl (by first | rfl | exact va_rf_r _) dJ2_fastRemove_34 ?_
    refine z_aload_n hX rfl (by first | rfl | exact va_rf_r _) dJ2_fastRemove_35 ?_
    refine z_iload_n hX rfl dJ2_fastRemove_36 ?_
    refine z_dup_x1 hX (by first | rfl | exact va_rf_c _) (by first | rfl | exact va_rf_c _) dJ2_fastRemove_37 ?_
    refine z_put hX (C := RJ2) (T := TJ2) (N := 3) (ci := 17) rfl in_J2 tyJ2 tyJ2_ok zn_J2 2 (by decide) q124 (Or.inl rfl) rfl rfl dJ2_fastRemove_38 (by first | assumption | exact zu_s _ _ _ | exact zu_o (by assumption) (by assumption) | exact zu_o (by assumption) (zu_o (by assumption) (by assumption))) (Nat.le_of_ble_eq_true rfl) (by first | rfl | exact znar _ | exact znarb _) (by first | rfl | exact zfit _ | exact zfitb _) rfl ?_
    refine z_null hX dJ2_fastRemove_41 ?_
    refine z_aastoreN hX 3 rfl dJ2_fastRemove_42 (a2' _) (by omega) ?_
    (try rw [← hQ])
    refine z_return hX dJ2_fastRemove_43 (by omega) (by omega) ?_
    refine fin _ g2 _ ?_ (zu_s _ _ _) (fun j hj => ?_) (fun q q1 q2 => by rw [zu_n q2, zu_n q1]; exact a4 q q1 q2)
    · rw [zu_n hne, zu_s]; rfl
    · rw [zf_n (by omega)]; exact a3 j hj
  refine z_aload_n hX rfl (by first | rfl | exact va_rf_r _) dJ2_fastRemove_0 ?_
  refine z_dup hX (by first | rfl | exact va_rf_c _) dJ2_fastRemove_1 ?_
  refine z_get hX (C := RJ2) (T := TJ2) (N := 3) (ci := 17) rfl in_J2 0 (by decide) q128 (Or.inr q129) dJ2_fastRemove_2 (by first | assumption | exact zu_s _ _ _ | exact zu_o (by assumption) (by assumption) | exact zu_o (by assumption) (zu_o (by assumption) (by assumption))) rfl ?_
  refine z_iconst hX dJ2_fastRemove_5 ?_
  refine z_iadd hX dJ2_fastRemove_6 ?_
  refine z_put hX (C := RJ2) (T := TJ2) (N := 3) (ci := 17) rfl in_J2 tyJ2 tyJ2_ok zn_J2 0 (by decide) q128 (Or.inr q129) rfl rfl dJ2_fastRemove_7 (by first | assumption | exact zu_s _ _ _ | exact zu_o (by assumption) (by assumption) | exact zu_o (by assumption) (zu_o (by assumption) (by assumption))) (Nat.le_of_ble_eq_true rfl) (by first | rfl | exact znar _ | exact znarb _) (by first | rfl | exact zfit _ | exact zfitb _) rfl ?_
  refine z_aload_n hX rfl (by first | rfl | exact va_rf_r _) dJ2_fastRemove_10 ?_
  refine z_get hX (C := RJ2) (T := TJ2) (N := 3) (ci := 17) rfl in_J2 2 (by decide) q124 (Or.inl rfl) dJ2_fastRemove_11 (by first | assumption | exact zu_s _ _ _ | exact zu_o (by assumption) (by assumption) | exact zu_o (by assumption) (zu_o (by assumption) (by assumption))) rfl ?_
  refine z_iconst hX dJ2_fastRemove_14 ?_
  refine z_isub hX dJ2_fastRemove_15 ?_
  refine z_dup hX (by first | rfl | exact va_rf_c _) dJ2_fastRemove_16 ?_
  refine z_istore_n hX (lv' := [_, _, _, _]) (Nat.le_of_ble_eq_true rfl) (by first | exact zpre_0 | exact zpre_n rfl | exact zpre_1 rfl rfl | exact zpre_1 rfl (va_rf_c _)) rfl dJ2_fastRemove_17 ?_
  refine z_iload_n hX rfl dJ2_fastRemove_18 ?_
  refine z_icmp_le hX (by omega) (by omega) dJ2_fastRemove_19 (tgt := 34) rfl (fun h_19 => ?_) (fun h_19 => ?_)
  · have hlast : i = rs.length - 1 := by have := h_19; omega
    refine tail _ g ((zu_s _ _ _).trans rfl) (h2' _) (fun j hj => ?_) (fun q q1 q2 => zu_n q1)
    rw [if_pos (by omega)]
    exact h5 j (by omega)
  · refine z_aload_n hX rfl (by first | rfl | exact va_rf_r _) dJ2_fastRemove_22 ?_
    refine z_iload_n hX rfl dJ2_fastRemove_23 ?_
    refine z_iconst hX dJ2_fastRemove_24 ?_
    refine z_iadd hX dJ2_fastRemove_25 ?_
    refine z_aload_n hX rfl (by first | rfl | exact va_rf_r _) dJ2_fastRemove_26 ?_
    refine z_iload_n hX rfl dJ2_fastRemove_27 ?_
    refine z_iload_n hX rfl dJ2_fastRemove_28 ?_
    refine z_iload_n hX rfl dJ2_fastRemove_29 ?_
    refine z_isub hX dJ2_fastRemove_30 ?_
    refine z_copyq hX 3 3 rfl rfl hca q426 q295 q294 q76 dJ2_fastRemove_31 (h2' _) (h2' _) (by omega) (fun j j1 j2 y hy => ?_) rfl ⟨Nat.le_of_ble_eq_true rfl, Nat.le_of_ble_eq_true rfl⟩ (Nat.le_of_ble_eq_true rfl) ?_
    · obtain ⟨k, rfl⟩ : ∃ k : Nat, j = k := ⟨j.toNat, by omega⟩
      rw [h5 k (by omega)] at hy
      have hm := List.mem_of_getElem? hy
      obtain ⟨ci, fs, T, N, m1, m2⟩ := hel y hm
      exact ⟨ci, fs, T, N, (zu_n (hLn y hm)).trans m1, m2⟩
    · refine tail _ _ ((zu_n hne).trans ((zu_s _ _ _).trans rfl)) (zu_s _ _ _) (fun j hj => ?_) (fun q q1 q2 => by rw [zu_n q2, zu_n q1])
      unfold zcp
      by_cases q : j < i
      · rw [if_neg (by omega), if_pos q]; exact h5 j (by omega)
      · rw [if_pos (by omega), if_neg q, show (i : Int) + 1 + ((j : Int) - i) = ((j + 1 : Nat) : Int) by omega]
        exact h5 (j + 1) (by omega)
theorem x_remove (l : Launch) (E : zE) {μ : zM} {L arr c : Nat} {rs : List Nat} (h : AL E μ L arr c rs) {i : Nat} (hi : i < rs.length) {C : String} (hca : Cond.castable C "java/lang/Object" ∈ lw_tbl) (hel : ∀ r ∈ rs, zel C μ r) (hLn : ∀ r ∈ rs, r ≠ L) : Met l yJ2_remove (ws_ yJ2_remove cJ2_remove 4 (some (.object "java/lang/Object"))) (zR 2 0 0) (va_Pc [.ref L, .int (zI (i : Int))] (zPre E μ)) (zQq E (fun r μ' => rs[i]? = r ∧ AL E μ' L arr c (rs.eraseIdx i) ∧ ∀ q, q ≠ L → q ≠ arr → μ' q = μ q)) 0 0 (zA E) := by
  have h' := h
  obtain ⟨mod, g, h1, h2, h3, h4, h5⟩ := h'
  refine zmetJ (cc := cJ2_remove) [_, _, _, _] (by decide +kernel) (Nat.le_of_ble_eq_true rfl) rfl rfl ?_
  intro X hl hX hinit; subst hl
  have hX : zOK X _ cJ2_remove RJ2 (some (.object "java/lang/Object")) 4 := hX
  generalize hQ : MQ _ _ _ _ _ _ _ = Q
  refine z_iload_n hX rfl dJ2_remove_0 ?_
  refine z_aload_n hX rfl (by first | rfl | exact va_rf_r _) dJ2_remove_1 ?_
  refine z_get hX (C := RJ2) (T := TJ2) (N := 3) (ci := 17) rfl in_J2 2 (by decide) q124 (Or.inl rfl) dJ2_remove_2 (by first | assumption | exact zu_s _ _ _ | exact zu_o (by assumption) (by assumption) | exact zu_o (by assumption) (zu_o (by assumption) (by assumption))) rfl ?_
  refine z_calli (z_runS hX (x_ck _ _ _ (by omega)) (va_cwS 2 hX.ts (lw_S q416 q417 q78 q418) rfl rfl rfl (by decide +kernel) (zroom (by decide) (by decide))) dJ2_remove_5 rfl rfl rfl (by first | exact Nat.le_of_ble_eq_true rfl | simp [va_rf_c, Value.category]) (zhf (by omega) (by omega))) (fun r_5 μ_5 h_5 => ?_)
  obtain ⟨rfl, rfl⟩ := h_5
  refine z_pop hX (by first | rfl | exact va_rf_c _) dJ2_remove_8 ?_
  refine z_aload_n hX rfl (by first | rfl | exact va_rf_r _) dJ2_remove_9 ?_
  refine z_get hX (C := RJ2) (T := TJ2) (N := 3) (ci := 17) rfl in_J2 1 (by decide) q123 (Or.inl rfl) dJ2_remove_10 (by first | assumption | exact zu_s _ _ _ | exact zu_o (by assumption) (by assumption) | exact zu_o (by assumption) (zu_o (by assumption) (by assumption))) rfl ?_
  refine z_astore_n hX (lv' := [_, _, _, _]) (by first | rfl | exact va_rf_r _) (Nat.le_of_ble_eq_true rfl) (by first | exact zpre_0 | exact zpre_n rfl | exact zpre_1 rfl rfl | exact zpre_1 rfl (va_rf_c _)) rfl dJ2_remove_13 ?_
  refine z_aload_n hX rfl (by first | rfl | exact va_rf_r _) dJ2_remove_14 ?_
  refine z_iload_n hX rfl dJ2_remove_15 ?_
  refine z_aaload hX 3 rfl dJ2_remove_16 (by first | assumption | exact zu_s _ _ _ | exact zu_o (by assumption) (by assumption) | exact zu_o (by assumption) (zu_o (by assumption) (by assumption))) (by omega) ?_
  refine z_astore_n hX (lv' := [_, _, _, _]) (by first | rfl | exact va_rf_r _) (Nat.le_of_ble_eq_true rfl) (by first | exact zpre_0 | exact zpre_n rfl | exact zpre_1 rfl rfl | exact zpre_1 rfl (va_rf_c _)) rfl dJ2_remove_17 ?_
  refine z_aload_n hX rfl (by first | rfl | exact va_rf_r _) dJ2_remove_18 ?_
  refine z_aload_n hX rfl (by first | rfl | exact va_rf_r _) dJ2_remove_19 ?_
  refine z_iload_n hX rfl dJ2_remove_20 ?_
  refine z_callv (z_runV hX (x_fastRemove _ _ h hi hca hel hLn) (cwV 2 hX.ts (lw_V q422 q424 qs6 q68 q425) rfl rfl rfl (by decide +kernel) (zroom (by decide) (by decide))) dJ2_remove_21 (by first | assumption | exact zu_s _ _ _ | exact zu_o (by assumption) (by assumption) | exact zu_o (by assumption) (zu_o (by assumption) (by assumption))) (ci := 17) rfl rfl rfl rfl (by first | exact Nat.le_of_ble_eq_true rfl | simp [va_rf_c, Value.category]) (zhf (by omega) (by omega))) (fun μ_21 h_21 => ?_)
  refine z_aload_n hX rfl (by first | rfl | exact va_rf_r _) dJ2_remove_24 ?_
  (try rw [← hQ])
  first | refine z_areturn hX (r := some _) rfl (by first | exact Or.inl ⟨_, rfl⟩ | exact Or.inr ⟨_, rfl⟩) dJ2_remove_25 (by omega) (by omega) ?_ | refine z_areturn hX (r := none) rfl (by first | exact Or.inl ⟨_, rfl⟩ | exact Or.inr ⟨_, rfl⟩) dJ2_remove_25 (by omega) (by omega) ?_ | refine z_areturn hX rfl (by first | exact Or.inl ⟨_, rfl⟩ | exact Or.inr ⟨_, rfl⟩) dJ2_remove_25 (by omega) (by omega) ?_
  exact ⟨(h5 i hi).symm, h_21⟩
