/-! X SIDE 10: LinkedList -/
set_option maxRecDepth 100000
/-- a node -/
abbrev zln (it nx pv : Option Nat) : va_E := zob 19 [va_rf it, va_rf nx, va_rf pv]
abbrev zll (mod n : Int) (f t : Option Nat) : va_E := zob 18 [.int (zI mod), .int (zI n), va_rf f, va_rf t]
/-- the list at L keeps it lo .. it (hi - 1), in the nodes ad -/
def LL (μ : zM) (L : Nat) (lo hi : Int) (ad it : Int → Nat) : Prop := ∃ mod, μ L = some (zll mod (hi - lo) (if lo < hi then some (ad lo) else none) (if lo < hi then some (ad (hi - 1)) else none)) ∧ (lo ≤ hi ∧ hi - lo ≤ 100) ∧ (∀ i, lo ≤ i → i < hi → μ (ad i) = some (zln (some (it i)) (if i + 1 < hi then some (ad (i + 1)) else none) (if lo < i then some (ad (i - 1)) else none))) ∧ ∀ i j, lo ≤ i → i < hi → lo ≤ j → j < hi → ad i = ad j → i = j
theorem x_llA (l : Launch) (E : zE) {μ : zM} {a : Nat} {u v w x : Value} (ha : μ a = some (zob 18 [u, v, w, x])) : Met l yJ1_init (ws_ yJ1_init cJ1_init 1 none) (zR 2 0 0) (va_Pc [.ref a] (zPre E μ)) (zQv E (fun μ' => zu μ a (zob 18 [.int (zI 0), v, w, x]) = μ')) 0 0 (zA E) := by
  refine zmetJ (cc := cJ1_init) [_] (by decide +kernel) (Nat.le_of_ble_eq_true rfl) rfl rfl ?_
  intro X hl hX hinit; subst hl
  have hX : zOK X _ cJ1_init RJ1 none 1 := hX
  refine z_aload_n hX rfl (by first | rfl | exact va_rf_r _) dJ1_init_0 ?_
  refine z_callv (z_runI hX (x_ac _ _ _) (cwI 0 hX.ts (lw_meth q117) rfl rfl rfl (hX.t q66) (hX.t q115) (hX.t q116) rfl (by decide +kernel) (zroom (by decide) (by decide))) dJ1_init_1 rfl rfl rfl (by first | exact Nat.le_of_ble_eq_true rfl | simp [va_rf_c, Value.category]) (zhf (by omega) (by omega))) (fun μ_1 h_1 => ?_)
  obtain rfl := h_1
  refine z_aload_n hX rfl (by first | rfl | exact va_rf_r _) dJ1_init_4 ?_
  refine z_iconst hX dJ1_init_5 ?_
  refine z_put hX (C := RJ4) (T := TJ4) (N := 4) (ci := 18) rfl in_J4 tyJ4 tyJ4_ok zn_J4 0 (by decide) q125 (Or.inl rfl) rfl rfl dJ1_init_6 (by first | assumption | exact zu_s _ _ _ | exact zu_o (by assumption) (by assumption) | exact zu_o (by assumption) (zu_o (by assumption) (by assumption))) (Nat.le_of_ble_eq_true rfl) (by first | rfl | exact znar _ | exact znarb _) (by first | rfl | exact zfit _ | exact zfitb _) rfl ?_
  (try rw [← hQ])
  refine z_return hX dJ1_init_9 (by omega) (by omega) ?_
  rfl
theorem x_llB (l : Launch) (E : zE) {μ : zM} {a : Nat} {u v w x : Value} (ha : μ a = some (zob 18 [u, v, w, x])) : Met l yJ3_init (ws_ yJ3_init cJ3_init 1 none) (zR 3 0 0) (va_Pc [.ref a] (zPre E μ)) (zQv E (fun μ' => zu μ a (zob 18 [.int (zI 0), v, w, x]) = μ')) 0 0 (zA E) := by
  refine zmetJ (cc := cJ3_init) [_] (by decide +kernel) (Nat.le_of_ble_eq_true rfl) rfl rfl ?_
  intro X hl hX hinit; subst hl
  have hX : zOK X _ cJ3_init RJ3 none 1 := hX
  refine z_aload_n hX rfl (by first | rfl | exact va_rf_r _) dJ3_init_0 ?_
  refine z_callv (z_runI hX (x_llA _ _ ha) (cwI 0 hX.ts (lw_meth q114) rfl rfl rfl (hX.t q67) (hX.t q145) (hX.t q113) rfl (by decide +kernel) (zroom (by decide) (by decide))) dJ3_init_1 rfl rfl rfl (by first | exact Nat.le_of_ble_eq_true rfl | simp [va_rf_c, Value.category]) (zhf (by omega) (by omega))) (fun μ_1 h_1 => ?_)
  obtain rfl := h_1
  (try rw [← hQ])
  refine z_return hX dJ3_init_4 (by omega) (by omega) ?_
  rfl
theorem x_llI (l : Launch) (E : zE) {μ : zM} {a : Nat} (ha : μ a = some (zob 18 [.int (zI 0), .int (zI 0), .null, .null])) (lo : Int) (ad it : Int → Nat) : Met l yJ4_init (ws_ yJ4_init cJ4_init 1 none) (zR 4 0 0) (va_Pc [.ref a] (zPre E μ)) (zQv E (fun μ' => LL μ' a lo lo ad it ∧ ∀ q, q ≠ a → μ' q = μ q)) 0 0 (zA E) := by
  refine zmetJ (cc := cJ4_init) [_] (by decide +kernel) (Nat.le_of_ble_eq_true rfl) rfl rfl ?_
  intro X hl hX hinit; subst hl
  have hX : zOK X _ cJ4_init RJ4 none 1 := hX
  generalize hQ : MQ _ _ _ _ _ _ _ = Q
  refine z_aload_n hX rfl (by first | rfl | exact va_rf_r _) dJ4_init_0 ?_
  refine z_callv (z_runI hX (x_llB _ _ ha) (cwI 0 hX.ts (lw_meth q144) rfl rfl rfl (hX.t q69) (hX.t q142) (hX.t q143) rfl (by decide +kernel) (zroom (by decide) (by decide))) dJ4_init_1 rfl rfl rfl (by first | exact Nat.le_of_ble_eq_true rfl | simp [va_rf_c, Value.category]) (zhf (by omega) (by omega))) (fun μ_1 h_1 => ?_)
  obtain rfl := h_1
  refine z_aload_n hX rfl (by first | rfl | exact va_rf_r _) dJ4_init_4 ?_
  refine z_iconst hX dJ4_init_5 ?_
  refine z_put hX (C := RJ4) (T := TJ4) (N := 4) (ci := 18) rfl in_J4 tyJ4 tyJ4_ok zn_J4 1 (by decide) q146 (Or.inl rfl) rfl rfl dJ4_init_6 (by first | assumption | exact zu_s _ _ _ | exact zu_o (by assumption) (by assumption) | exact zu_o (by assumption) (zu_o (by assumption) (by assumption))) (Nat.le_of_ble_eq_true rfl) (by first | rfl | exact znar _ | exact znarb _) (by first | rfl | exact zfit _ | exact zfitb _) rfl ?_
  (try rw [← hQ])
  refine z_return hX dJ4_init_9 (by omega) (by omega) ?_
  refine ⟨⟨0, ?_, by omega, fun i _ _ => by omega, fun i j _ _ _ _ => by omega⟩, fun q q1 => by rw [zu_n q1, zu_n q1]⟩
  rw [zu_s, if_neg (by omega), if_neg (by omega), Int.sub_self]
  rfl
theorem x_llS (l : Launch) (E : zE) {μ : zM} {L : Nat} {lo hi : Int} {ad it : Int → Nat} (h : LL μ L lo hi ad it) : Met l yJ4_size (ws_ yJ4_size cJ4_size 1 (some .int)) (zR 0 0 0) (va_Pc [.ref L] (zPre E μ)) (zQi E (fun r μ' => μ = μ' ∧ hi - lo = r)) 0 0 (zA E) := by
  obtain ⟨mod, h1, h2, h3, h4⟩ := h
  refine zmetJ (cc := cJ4_size) [_] (by decide +kernel) (Nat.le_of_ble_eq_true rfl) rfl rfl ?_
  intro X hl hX hinit; subst hl
  have hX : zOK X _ cJ4_size RJ4 (some .int) 1 := hX
  refine z_aload_n hX rfl (by first | rfl | exact va_rf_r _) dJ4_size_0 ?_
  refine z_get hX (C := RJ4) (T := TJ4) (N := 4) (ci := 18) rfl in_J4 1 (by decide) q146 (Or.inl rfl) dJ4_size_1 (by first | assumption | exact zu_s _ _ _ | exact zu_o (by assumption) (by assumption) | exact zu_o (by assumption) (zu_o (by assumption) (by assumption))) rfl ?_
  (try rw [← hQ])
  refine z_ireturn hX dJ4_size_4 (by omega) (by omega) ?_
  exact ⟨rfl, rfl⟩
theorem x_lnI (l : Launch) (E : zE) {μ : zM} {a : Nat} (ha : μ a = some (zob 19 [.null, .null, .null])) (pv : Option Nat) (it : Nat) : Met l yJ5_init (ws_ yJ5_init cJ5_init 4 none) (zR 1 0 0) (va_Pc [.ref a, va_rf pv, .ref it, .null] (zPre E μ)) (zQv E (fun μ' => zu μ a (zln (some it) none pv) = μ')) 0 0 (zA E) := by
  refine zmetJ (cc := cJ5_init) [some (.ref a), some (va_rf pv), some (.ref it), some .null] (by decide +kernel) (by cases pv <;> exact Nat.le_of_ble_eq_true rfl) (by cases pv <;> rfl) rfl ?_
  intro X hl hX hinit; subst hl
  have hX : zOK X _ cJ5_init RJ5 none 4 := hX
  refine z_aload_n hX rfl (by first | rfl | exact va_rf_r _) dJ5_init_0 ?_
  refine z_objInit hX q231 dJ5_init_1 rfl ⟨Nat.le_of_ble_eq_true rfl, Nat.le_of_ble_eq_true rfl⟩ (by first | exact Nat.le_of_ble_eq_true rfl | simp [va_rf_c, Value.category]) ?_
  refine z_aload_n hX rfl (by first | rfl | exact va_rf_r _) dJ5_init_4 ?_
  refine z_aload_n hX rfl (by first | rfl | exact va_rf_r _) dJ5_init_5 ?_
  refine z_put hX (C := RJ5) (T := TJ5) (N := 3) (ci := 19) rfl in_J5 tyJ5 tyJ5_ok zn_J5 0 (by decide) q232 (Or.inl rfl) rfl rfl dJ5_init_6 (by first | assumption | exact zu_s _ _ _ | exact zu_o (by assumption) (by assumption) | exact zu_o (by assumption) (zu_o (by assumption) (by assumption))) (Nat.le_of_ble_eq_true rfl) (by first | rfl | exact znar _ | exact znarb _) (by first | rfl | exact zfit _ | exact zfitb _) rfl ?_
  refine z_aload_n hX rfl (by first | rfl | exact va_rf_r _) dJ5_init_9 ?_
  refine z_aload_n hX rfl (by first | rfl | exact va_rf_r _) dJ5_init_10 ?_
  refine z_put hX (C := RJ5) (T := TJ5) (N := 3) (ci := 19) rfl in_J5 tyJ5 tyJ5_ok zn_J5 1 (by decide) q234 (Or.inl rfl) rfl rfl dJ5_init_11 (by first | assumption | exact zu_s _ _ _ | exact zu_o (by assumption) (by assumption) | exact zu_o (by assumption) (zu_o (by assumption) (by assumption))) (Nat.le_of_ble_eq_true rfl) (by first | rfl | exact znar _ | exact znarb _) (by first | rfl | exact zfit _ | exact zfitb _) rfl ?_
  refine z_aload_n hX rfl (by first | rfl | exact va_rf_r _) dJ5_init_14 ?_
  refine z_aload_n hX rfl (by first | rfl | exact va_rf_r _) dJ5_init_15 ?_
  refine z_put hX (C := RJ5) (T := TJ5) (N := 3) (ci := 19) rfl in_J5 tyJ5 tyJ5_ok zn_J5 2 (by decide) q236 (Or.inl rfl) rfl rfl dJ5_init_16 (by first | assumption | exact zu_s _ _ _ | exact zu_o (by assumption) (by assumption) | exact zu_o (by assumption) (zu_o (by assumption) (by assumption))) (Nat.le_of_ble_eq_true rfl) (by cases pv <;> rfl) (by cases pv <;> rfl) rfl ?_
  (try rw [← hQ])
  refine z_return hX dJ5_init_19 (by omega) (by omega) ?_
  simp only [zu_zu]
  rfl
