/-! X SIDE 7: ArrayList: made -/
set_option maxRecDepth 100000
theorem x_ac (l : Launch) (E : zE) (μ : zM) {a : Nat} : Met l yJ0_init (ws_ yJ0_init cJ0_init 1 none) (zR 1 0 0) (va_Pc [.ref a] (zPre E μ)) (zQv E (fun μ' => μ = μ')) 0 0 (zA E) := by
  refine zmetJ (cc := cJ0_init) [_] (by decide +kernel) (Nat.le_of_ble_eq_true rfl) rfl rfl ?_
  intro X hl hX hinit; subst hl
  have hX : zOK X _ cJ0_init RJ0 none 1 := hX
  refine z_aload_n hX rfl (by first | rfl | exact va_rf_r _) dJ0_init_0 ?_
  refine z_objInit hX q118 dJ0_init_1 rfl ⟨Nat.le_of_ble_eq_true rfl, Nat.le_of_ble_eq_true rfl⟩ (by first | exact Nat.le_of_ble_eq_true rfl | simp [va_rf_c, Value.category]) ?_
  (try rw [← hQ])
  refine z_return hX dJ0_init_4 (by omega) (by omega) ?_
  rfl
theorem x_alA (l : Launch) (E : zE) {μ : zM} {a : Nat} {u v w : Value} (ha : μ a = some (zob 17 [u, v, w])) : Met l yJ1_init (ws_ yJ1_init cJ1_init 1 none) (zR 2 0 0) (va_Pc [.ref a] (zPre E μ)) (zQv E (fun μ' => zu μ a (zob 17 [.int (zI 0), v, w]) = μ')) 0 0 (zA E) := by
  refine zmetJ (cc := cJ1_init) [_] (by decide +kernel) (Nat.le_of_ble_eq_true rfl) rfl rfl ?_
  intro X hl hX hinit; subst hl
  have hX : zOK X _ cJ1_init RJ1 none 1 := hX
  refine z_aload_n hX rfl (by first | rfl | exact va_rf_r _) dJ1_init_0 ?_
  refine z_callv (z_runI hX (x_ac _ _ _) (cwI 0 hX.ts (lw_meth q117) rfl rfl rfl (hX.t q66) (hX.t q115) (hX.t q116) rfl (by decide +kernel) (zroom (by decide) (by decide))) dJ1_init_1 rfl rfl rfl (by first | exact Nat.le_of_ble_eq_true rfl | simp [va_rf_c, Value.category]) (zhf (by omega) (by omega))) (fun μ_1 h_1 => ?_)
  obtain rfl := h_1
  refine z_aload_n hX rfl (by first | rfl | exact va_rf_r _) dJ1_init_4 ?_
  refine z_iconst hX dJ1_init_5 ?_
  refine z_put hX (C := RJ2) (T := TJ2) (N := 3) (ci := 17) rfl in_J2 tyJ2 tyJ2_ok zn_J2 0 (by decide) q125 (Or.inl rfl) rfl rfl dJ1_init_6 (by first | assumption | exact zu_s _ _ _ | exact zu_o (by assumption) (by assumption) | exact zu_o (by assumption) (zu_o (by assumption) (by assumption))) (Nat.le_of_ble_eq_true rfl) (by first | rfl | exact znar _ | exact znarb _) (by first | rfl | exact zfit _ | exact zfitb _) rfl ?_
  (try rw [← hQ])
  refine z_return hX dJ1_init_9 (by omega) (by omega) ?_
  rfl
theorem x_alI (l : Launch) (E : zE) {μ : zM} {a n : Nat} (ha : μ a = some (zob 17 [.int (zI 0), .null, .int (zI 0)])) (hn : 1 ≤ n ∧ n ≤ 1000) : Met l yJ2_init (ws_ yJ2_init cJ2_init 2 none) (zR 3 1 n) (va_Pc [.ref a, .int (zI (n : Int))] (zPre E μ)) (zQv E (fun μ' => ∃ b, μ b = none ∧ AL E μ' a b n [] ∧ ∀ q, q ≠ a → q ≠ b → μ' q = μ q)) 1 n (zA E) := by
  refine zmetJ (cc := cJ2_init) [_, _] (by decide +kernel) (Nat.le_of_ble_eq_true rfl) rfl rfl ?_
  intro X hl hX hinit; subst hl
  have hX : zOK X _ cJ2_init RJ2 none 2 := hX
  generalize hQ : MQ _ _ _ _ _ _ _ = Q
  refine z_aload_n hX rfl (by first | rfl | exact va_rf_r _) dJ2_init_0 ?_
  refine z_callv (z_runI hX (x_alA _ _ ha) (cwI 0 hX.ts (lw_meth q114) rfl rfl rfl (hX.t q67) (hX.t q112) (hX.t q113) rfl (by decide +kernel) (zroom (by decide) (by decide))) dJ2_init_1 rfl rfl rfl (by first | exact Nat.le_of_ble_eq_true rfl | simp [va_rf_c, Value.category]) (zhf (by omega) (by omega))) (fun μ_1 h_1 => ?_)
  obtain rfl := h_1
  refine z_iload_n hX rfl dJ2_init_4 ?_
  refine z_if_le hX (by omega) dJ2_init_5 (tgt := 19) rfl (fun h_5 => ?_) (fun h_5 => ?_)
  · exact absurd h_5 (by omega)
  · refine z_aload_n hX rfl (by first | rfl | exact va_rf_r _) dJ2_init_8 ?_
    refine z_iload_n hX rfl dJ2_init_9 ?_
    refine z_newQ hX 3 n rfl hX.T.2.1 q119 dJ2_init_10 rfl (by omega) (by omega) (by omega) (fun q_10 f_10 => ?_)
    have hna := zne (zu_s _ _ _) f_10
    have ha2 : zu (zu μ a (zob 17 [.int (zI 0), .null, .int (zI 0)])) q_10 (zaq E 3 n (fun _ => none)) a = some (zob 17 [.int (zI 0), .null, .int (zI 0)]) := zu_o hna (zu_s _ _ _)
    refine z_put hX (C := RJ2) (T := TJ2) (N := 3) (ci := 17) rfl in_J2 tyJ2 tyJ2_ok zn_J2 1 (by decide) q123 (Or.inl rfl) rfl rfl dJ2_init_13 (by first | assumption | exact zu_s _ _ _ | exact zu_o (by assumption) (by assumption) | exact zu_o (by assumption) (zu_o (by assumption) (by assumption))) (Nat.le_of_ble_eq_true rfl) (by first | rfl | exact znar _ | exact znarb _) (by first | rfl | exact zfit _ | exact zfitb _) rfl ?_
    refine z_goto hX (tgt := 60) dJ2_init_16 rfl ?_
    (try rw [← hQ])
    refine z_return hX dJ2_init_60 (by omega) (by omega) ?_
    have hb : μ q_10 = none := by rw [zu_n (Ne.symm hna)] at f_10; exact f_10
    exact ⟨q_10, hb, ⟨0, fun _ => none, (zu_s _ _ _).trans rfl, zu_o (Ne.symm hna) (zu_s _ _ _), by simp, by omega, fun i hi => absurd hi (by simp)⟩, fun q q1 q2 => by rw [zu_n q1, zu_n q2, zu_n q1]⟩
theorem x_alD (l : Launch) (E : zE) {μ : zM} {a : Nat} (ha : μ a = some (zob 17 [.int (zI 0), .null, .int (zI 0)])) {g : Int → Option Nat} (h1 : μ (zs E 1) = some (zaq E 3 0 g)) : Met l yJ2_init_3 (ws_ yJ2_init_3 cJ2_init_3 1 none) (zR 3 0 0) (va_Pc [.ref a] (zPre E μ)) (zQv E (fun μ' => AL E μ' a (zs E 1) 0 [] ∧ ∀ q, q ≠ a → μ' q = μ q)) 0 0 (zA E) := by
  have hne : zs E 1 ≠ a := by intro q; rw [q, ha] at h1; cases h1
  refine zmetJ (cc := cJ2_init_3) [_] (by decide +kernel) (Nat.le_of_ble_eq_true rfl) rfl rfl ?_
  intro X hl hX hinit; subst hl
  have hX : zOK X _ cJ2_init_3 RJ2 none 1 := hX
  generalize hQ : MQ _ _ _ _ _ _ _ = Q
  refine z_aload_n hX rfl (by first | rfl | exact va_rf_r _) dJ2_init_3_0 ?_
  refine z_callv (z_runI hX (x_alA _ _ ha) (cwI 0 hX.ts (lw_meth q114) rfl rfl rfl (hX.t q67) (hX.t q112) (hX.t q113) rfl (by decide +kernel) (zroom (by decide) (by decide))) dJ2_init_3_1 rfl rfl rfl (by first | exact Nat.le_of_ble_eq_true rfl | simp [va_rf_c, Value.category]) (zhf (by omega) (by omega))) (fun μ_1 h_1 => ?_)
  obtain rfl := h_1
  refine z_aload_n hX rfl (by first | rfl | exact va_rf_r _) dJ2_init_3_4 ?_
  refine z_gets hX hX.S.2.1 q391 dJ2_init_3_5 ?_
  refine z_put hX (C := RJ2) (T := TJ2) (N := 3) (ci := 17) rfl in_J2 tyJ2 tyJ2_ok zn_J2 1 (by decide) q123 (Or.inl rfl) rfl rfl dJ2_init_3_8 (by first | assumption | exact zu_s _ _ _ | exact zu_o (by assumption) (by assumption) | exact zu_o (by assumption) (zu_o (by assumption) (by assumption))) (Nat.le_of_ble_eq_true rfl) (by first | rfl | exact znar _ | exact znarb _) (by first | rfl | exact zfit _ | exact zfitb _) rfl ?_
  (try rw [← hQ])
  refine z_return hX dJ2_init_3_11 (by omega) (by omega) ?_
  exact ⟨⟨0, g, (zu_s _ _ _).trans rfl, by rw [zu_n hne, zu_n hne]; exact h1, by simp, by omega, fun i hi => absurd hi (by simp)⟩, fun q q1 => by rw [zu_n q1, zu_n q1]⟩
