/-! X SIDE 49: the graph made -/
set_option maxRecDepth 100000
theorem zDm.zu (μ : zM) (a : Nat) (e : va_E) : zDm μ (zu μ a e) := fun _ hy => (zu_none hy).1
theorem x_xI (l : Launch) (E : zE) {μ : zM} {x : Nat} (hw : μ x = some (zob 0 [.null, .null, .null, .null, .int (zI 0), .null, .null, .long (zJ 0)])) (hO : zO E μ) : Met l yX0_init (ws_ yX0_init cX0_init 1 none) (zR 5 5 200) (va_Pc [.ref x] (zPre E μ)) (zQv E (fun μ' => ∃ h mk tx ad it ar cp rs, xC E μ' x h mk tx 0 none none 0 0 0 ad it ar cp rs (fun _ _ => 0) ∧ μ' mk = some (zai E 8 (fun _ => 0)) ∧ μ' tx = some (zab E 150 (fun _ => 0)) ∧ mk ≠ tx ∧ μ mk = none ∧ μ tx = none ∧ zKx [x] μ μ')) 5 200 (zA E) := by
  refine zmet (cc := cX0_init) [_] (by decide) (Nat.le_of_ble_eq_true rfl) rfl rfl ?_
  intro X hl hX hinit; subst hl
  have hX : zOK X _ cX0_init RX0 none 1 := hX
  generalize hQ : MQ _ _ _ _ _ _ _ = Q
  refine z_aload_n hX rfl (by first | rfl | exact va_rf_r _) dX0_init_0 ?_
  refine z_objInit hX q104 dX0_init_1 rfl ⟨Nat.le_of_ble_eq_true rfl, Nat.le_of_ble_eq_true rfl⟩ (by first | exact Nat.le_of_ble_eq_true rfl | simp [va_rf_c, Value.category]) ?_
  refine z_aload_n hX rfl (by first | rfl | exact va_rf_r _) dX0_init_4 ?_
  refine z_new hX (C := RJ2) (T := TJ2) (N := 3) (ci := 17) rfl in_J2 tyJ2 tyJ2_ok q107 q108 q68 dX0_init_5 (fs := [.int (zI 0), .null, .int (zI 0)]) (by decide) (by omega) (by omega) (fun q_5 f_5 => ?_)
  have hxq : x ≠ q_5 := zne hw f_5
  have kn := zKp.new f_5 (zob 17 [.int (zI 0), .null, .int (zI 0)])
  have hx1 := kn _ _ hw
  refine z_dup hX (by first | rfl | exact va_rf_c _) dX0_init_8 ?_
  refine z_bipush hX (by decide) dX0_init_9 ?_
  refine z_callv (z_runI hX (x_alI (n := 16) _ _ (zu_s _ _ _) (by omega)) (cwI 1 hX.ts (lw_meth q111) rfl rfl rfl (hX.t q68) (hX.t q109) (hX.t q110) rfl (by decide +kernel) (zroom (by first | decide | omega) (by decide))) dX0_init_11 rfl rfl rfl (by first | exact Nat.le_of_ble_eq_true rfl | simp [va_rf_c, Value.category]) (zhf (by omega) (by omega))) (fun μ_11 h_11 => ?_)
  obtain ⟨b, hb, hAL, hf⟩ := h_11
  have hxb : x ≠ b := zne hx1 hb
  have hx2 : μ_11 x = some (zob 0 [.null, .null, .null, .null, .int (zI 0), .null, .null, .long (zJ 0)]) := by rw [hf x hxq hxb]; exact hx1
  have hb0 : μ b = none := kn.no hb
  have k1 : zKx [x] μ μ_11 := fun z e hz _ => by
    rw [hf z (zne hz f_5) (zne hz hb0)]
    exact kn _ _ hz
  have d1 : zDm μ μ_11 := fun y hy => by
    obtain ⟨e, e1, -⟩ := hAL.k17
    obtain ⟨e', e1', -⟩ := hAL.k104
    by_cases h1 : y = q_5
    · rw [h1, e1] at hy; cases hy
    · by_cases h2 : y = b
      · rw [h2, e1'] at hy; cases hy
      · rw [hf y h1 h2] at hy; exact kn.no hy
  refine z_put hX (C := RX0) (T := TX0) (N := 8) (ci := 0) rfl in_X0 tyX0 tyX0_ok zn_X0 0 (by decide) q159 (Or.inl rfl) rfl rfl dX0_init_14 (by first | assumption | exact zu_s _ _ _ | exact zu_o (by assumption) (by assumption) | exact zu_o (by assumption) (zu_o (by assumption) (by assumption)) | exact (zu_o (by first | assumption | exact Ne.symm (by assumption)) (zu_s _ _ _)) | exact (zu_o (by first | assumption | exact Ne.symm (by assumption)) (by assumption)) | exact (zu_o (by first | assumption | exact Ne.symm (by assumption)) (zu_o (by first | assumption | exact Ne.symm (by assumption)) (zu_s _ _ _))) | exact (zu_o (by first | assumption | exact Ne.symm (by assumption)) (zu_o (by first | assumption | exact Ne.symm (by assumption)) (by assumption))) | exact (zu_o (by first | assumption | exact Ne.symm (by assumption)) (zu_o (by first | assumption | exact Ne.symm (by assumption)) (zu_o (by first | assumption | exact Ne.symm (by assumption)) (zu_s _ _ _)))) | exact (zu_o (by first | assumption | exact Ne.symm (by assumption)) (zu_o (by first | assumption | exact Ne.symm (by assumption)) (zu_o (by first | assumption | exact Ne.symm (by assumption)) (by assumption)))) | exact (zu_o (by first | assumption | exact Ne.symm (by assumption)) (zu_o (by first | assumption | exact Ne.symm (by assumption)) (zu_o (by first | assumption | exact Ne.symm (by assumption)) (zu_o (by first | assumption | exact Ne.symm (by assumption)) (zu_s _ _ _))))) | exact (zu_o (by first | assumption | exact Ne.symm (by assumption)) (zu_o (by first | assumption | exact Ne.symm (by assumption)) (zu_o (by first | assumption | exact Ne.symm (by assumption)) (zu_o (by first | assumption | exact Ne.symm (by assumption)) (by assumption))))) | exact AL.at (by assumption) | exact EL.at (by assumption) | exact LL.at (by assumption)) (Nat.le_of_ble_eq_true rfl) (by first | rfl | exact znar _ | exact znarb _) (by first | rfl | exact zfit _ | exact zfitb _) rfl ?_
  refine z_aload_n hX rfl (by first | rfl | exact va_rf_r _) dX0_init_17 ?_
  refine z_new hX (C := RJ4) (T := TJ4) (N := 4) (ci := 18) rfl in_J4 tyJ4 tyJ4_ok q137 q138 q70 dX0_init_18 (fs := [.int (zI 0), .int (zI 0), .null, .null]) (by decide) (by omega) (by omega) (fun q_18 f_18 => ?_)
  have n18 := (zu_none f_18).2
  have g18 := (zu_none f_18).1
  generalize hμ3 : zu (zu μ_11 x (zob 0 ([.null, .null, .null, .null, .int (zI 0), .null, .null, .long (zJ 0)].set 0 (.ref q_5)))) q_18 (zob 18 [.int (zI 0), .int (zI 0), .null, .null]) = μ3
  have h18 : μ3 q_18 = some (zob 18 [.int (zI 0), .int (zI 0), .null, .null]) := by rw [← hμ3]; exact zu_s _ _ _
  have hx3 : μ3 x = some (zob 0 [.ref q_5, .null, .null, .null, .int (zI 0), .null, .null, .long (zJ 0)]) := by rw [← hμ3]; exact zu_o (Ne.symm n18) (zu_s _ _ _)
  have k3 : zKx [x] μ_11 μ3 := by rw [← hμ3]; exact ((zKx.rf [x] μ_11).put (by simp) _).nu g18 _
  have d3 : zDm μ_11 μ3 := by rw [← hμ3]; exact (zDm.zu _ _ _).tr (zDm.zu _ _ _)
  refine z_dup hX (by first | rfl | exact va_rf_c _) dX0_init_21 ?_
  refine z_callv (z_runI hX (x_llI _ _ h18 0 (fun _ => 0) (fun _ => q_5)) (cwI 0 hX.ts (lw_meth q141) rfl rfl rfl (hX.t q70) (hX.t q139) (hX.t q140) rfl (by decide +kernel) (zroom (by first | decide | omega) (by decide))) dX0_init_22 rfl rfl rfl (by first | exact Nat.le_of_ble_eq_true rfl | simp [va_rf_c, Value.category]) (zhf (by omega) (by omega))) (fun μ_22 h_22 => ?_)
  obtain ⟨hLL, hf2⟩ := h_22
  have hx4 : μ_22 x = some (zob 0 [.ref q_5, .null, .null, .null, .int (zI 0), .null, .null, .long (zJ 0)]) := by rw [hf2 x (Ne.symm n18)]; exact hx3
  have k4 : zKx [x] μ_11 μ_22 := fun z e hz hn => by
    rw [hf2 z (zne hz g18)]
    exact k3 z e hz hn
  have d4 : zDm μ_11 μ_22 := fun y hy => by
    by_cases h1 : y = q_18
    · rw [h1, hLL.at] at hy; cases hy
    · rw [hf2 y h1] at hy; exact d3 y hy
  refine z_putF hX hinit (C := RX0) (T := TX0) (N := 8) (ci := 0) rfl in_X0 tyX0 tyX0_ok zn_X0 1 (by decide) q161 (Or.inl rfl) rfl rfl rfl dX0_init_25 (by first | assumption | exact zu_s _ _ _ | exact zu_o (by assumption) (by assumption) | exact zu_o (by assumption) (zu_o (by assumption) (by assumption)) | exact (zu_o (by first | assumption | exact Ne.symm (by assumption)) (zu_s _ _ _)) | exact (zu_o (by first | assumption | exact Ne.symm (by assumption)) (by assumption)) | exact (zu_o (by first | assumption | exact Ne.symm (by assumption)) (zu_o (by first | assumption | exact Ne.symm (by assumption)) (zu_s _ _ _))) | exact (zu_o (by first | assumption | exact Ne.symm (by assumption)) (zu_o (by first | assumption | exact Ne.symm (by assumption)) (by assumption))) | exact (zu_o (by first | assumption | exact Ne.symm (by assumption)) (zu_o (by first | assumption | exact Ne.symm (by assumption)) (zu_o (by first | assumption | exact Ne.symm (by assumption)) (zu_s _ _ _)))) | exact (zu_o (by first | assumption | exact Ne.symm (by assumption)) (zu_o (by first | assumption | exact Ne.symm (by assumption)) (zu_o (by first | assumption | exact Ne.symm (by assumption)) (by assumption)))) | exact (zu_o (by first | assumption | exact Ne.symm (by assumption)) (zu_o (by first | assumption | exact Ne.symm (by assumption)) (zu_o (by first | assumption | exact Ne.symm (by assumption)) (zu_o (by first | assumption | exact Ne.symm (by assumption)) (zu_s _ _ _))))) | exact (zu_o (by first | assumption | exact Ne.symm (by assumption)) (zu_o (by first | assumption | exact Ne.symm (by assumption)) (zu_o (by first | assumption | exact Ne.symm (by assumption)) (zu_o (by first | assumption | exact Ne.symm (by assumption)) (by assumption))))) | exact AL.at (by assumption) | exact EL.at (by assumption) | exact LL.at (by assumption)) (Nat.le_of_ble_eq_true rfl) (by first | rfl | exact znar _ | exact znarb _) (by first | rfl | exact zfit _ | exact zfitb _) rfl ?_
  refine z_aload_n hX rfl (by first | rfl | exact va_rf_r _) dX0_init_28 ?_
  refine z_bipush hX (by decide) dX0_init_29 ?_
  refine z_newI hX 8 q187 dX0_init_31 rfl (by decide) (by omega) (by omega) (fun q_31 f_31 => ?_)
  have n31 := (zu_none f_31).2
  have g31 := (zu_none f_31).1
  have hx5 : (zu (zu μ_22 x (zob 0 ([.ref q_5, .null, .null, .null, .int (zI 0), .null, .null, .long (zJ 0)].set 1 (.ref q_18)))) q_31 (zai E 8 (fun _ => 0))) x = some (zob 0 [.ref q_5, .ref q_18, .null, .null, .int (zI 0), .null, .null, .long (zJ 0)]) := zu_o (Ne.symm n31) (zu_s _ _ _)
  refine z_putF hX hinit (C := RX0) (T := TX0) (N := 8) (ci := 0) rfl in_X0 tyX0 tyX0_ok zn_X0 2 (by decide) q162 (Or.inl rfl) rfl rfl rfl dX0_init_33 (by first | assumption | exact zu_s _ _ _ | exact zu_o (by assumption) (by assumption) | exact zu_o (by assumption) (zu_o (by assumption) (by assumption)) | exact (zu_o (by first | assumption | exact Ne.symm (by assumption)) (zu_s _ _ _)) | exact (zu_o (by first | assumption | exact Ne.symm (by assumption)) (by assumption)) | exact (zu_o (by first | assumption | exact Ne.symm (by assumption)) (zu_o (by first | assumption | exact Ne.symm (by assumption)) (zu_s _ _ _))) | exact (zu_o (by first | assumption | exact Ne.symm (by assumption)) (zu_o (by first | assumption | exact Ne.symm (by assumption)) (by assumption))) | exact (zu_o (by first | assumption | exact Ne.symm (by assumption)) (zu_o (by first | assumption | exact Ne.symm (by assumption)) (zu_o (by first | assumption | exact Ne.symm (by assumption)) (zu_s _ _ _)))) | exact (zu_o (by first | assumption | exact Ne.symm (by assumption)) (zu_o (by first | assumption | exact Ne.symm (by assumption)) (zu_o (by first | assumption | exact Ne.symm (by assumption)) (by assumption)))) | exact (zu_o (by first | assumption | exact Ne.symm (by assumption)) (zu_o (by first | assumption | exact Ne.symm (by assumption)) (zu_o (by first | assumption | exact Ne.symm (by assumption)) (zu_o (by first | assumption | exact Ne.symm (by assumption)) (zu_s _ _ _))))) | exact (zu_o (by first | assumption | exact Ne.symm (by assumption)) (zu_o (by first | assumption | exact Ne.symm (by assumption)) (zu_o (by first | assumption | exact Ne.symm (by assumption)) (zu_o (by first | assumption | exact Ne.symm (by assumption)) (by assumption))))) | exact AL.at (by assumption) | exact EL.at (by assumption) | exact LL.at (by assumption)) (Nat.le_of_ble_eq_true rfl) (by first | rfl | exact znar _ | exact znarb _) (by first | rfl | exact zfit _ | exact zfitb _) rfl ?_
  refine z_aload_n hX rfl (by first | rfl | exact va_rf_r _) dX0_init_36 ?_
  refine z_sipush hX (by decide) dX0_init_37 ?_
  refine z_newB hX 150 q188 dX0_init_40 rfl (by decide) (by omega) (by omega) (fun q_40 f_40 => ?_)
  rw [zu_sw (Ne.symm n31)] at f_40 ⊢
  have n40 := (zu_none f_40).2
  have g40 := (zu_none (zu_none f_40).1).1
  have n401 := (zu_none (zu_none f_40).1).2
  have hx6 : (zu (zu (zu μ_22 q_31 (zai E 8 (fun _ => 0))) x (zob 0 [.ref q_5, .ref q_18, .ref q_31, .null, .int (zI 0), .null, .null, .long (zJ 0)])) q_40 (zab E 150 (fun _ => 0))) x = some (zob 0 [.ref q_5, .ref q_18, .ref q_31, .null, .int (zI 0), .null, .null, .long (zJ 0)]) := zu_o (Ne.symm n40) (zu_s _ _ _)
  refine z_putF hX hinit (C := RX0) (T := TX0) (N := 8) (ci := 0) rfl in_X0 tyX0 tyX0_ok zn_X0 3 (by decide) q164 (Or.inl rfl) rfl rfl rfl dX0_init_42 (by first | assumption | exact zu_s _ _ _ | exact zu_o (by assumption) (by assumption) | exact zu_o (by assumption) (zu_o (by assumption) (by assumption)) | exact (zu_o (by first | assumption | exact Ne.symm (by assumption)) (zu_s _ _ _)) | exact (zu_o (by first | assumption | exact Ne.symm (by assumption)) (by assumption)) | exact (zu_o (by first | assumption | exact Ne.symm (by assumption)) (zu_o (by first | assumption | exact Ne.symm (by assumption)) (zu_s _ _ _))) | exact (zu_o (by first | assumption | exact Ne.symm (by assumption)) (zu_o (by first | assumption | exact Ne.symm (by assumption)) (by assumption))) | exact (zu_o (by first | assumption | exact Ne.symm (by assumption)) (zu_o (by first | assumption | exact Ne.symm (by assumption)) (zu_o (by first | assumption | exact Ne.symm (by assumption)) (zu_s _ _ _)))) | exact (zu_o (by first | assumption | exact Ne.symm (by assumption)) (zu_o (by first | assumption | exact Ne.symm (by assumption)) (zu_o (by first | assumption | exact Ne.symm (by assumption)) (by assumption)))) | exact (zu_o (by first | assumption | exact Ne.symm (by assumption)) (zu_o (by first | assumption | exact Ne.symm (by assumption)) (zu_o (by first | assumption | exact Ne.symm (by assumption)) (zu_o (by first | assumption | exact Ne.symm (by assumption)) (zu_s _ _ _))))) | exact (zu_o (by first | assumption | exact Ne.symm (by assumption)) (zu_o (by first | assumption | exact Ne.symm (by assumption)) (zu_o (by first | assumption | exact Ne.symm (by assumption)) (zu_o (by first | assumption | exact Ne.symm (by assumption)) (by assumption))))) | exact AL.at (by assumption) | exact EL.at (by assumption) | exact LL.at (by assumption)) (Nat.le_of_ble_eq_true rfl) (by first | rfl | exact znar _ | exact znarb _) (by first | rfl | exact zfit _ | exact zfitb _) rfl ?_
  (try rw [← hQ])
  (try refine zyret ?_)
  refine z_return hX dX0_init_45 (by omega) (by omega) ?_
  rw [zu_sw (Ne.symm n40)]
  generalize hμf : zu (zu (zu μ_22 q_31 (zai E 8 (fun _ => 0))) q_40 (zab E 150 (fun _ => 0))) x _ = μf
  have hxf : μf x = some (zx0 q_5 q_18 q_31 q_40 0 none none 0) := by rw [← hμf]; exact zu_s _ _ _
  have kf : zKx [x] μ_22 μf := by rw [← hμf]; exact (((zKx.rf [x] μ_22).nu g31 _).nu g40 _).put (by simp) _
  have m1 : μf q_31 = some (zai E 8 (fun _ => 0)) := by rw [← hμf]; exact zu_o n31 (zu_o (Ne.symm n401) (zu_s _ _ _))
  have m2 : μf q_40 = some (zab E 150 (fun _ => 0)) := by rw [← hμf]; exact zu_o n40 (zu_s _ _ _)
  have kx0 : ∀ z e, μ_22 z = some e → kd e ≠ 0 → μf z = some e := fun z e hz hn => kf z e hz (by simpa using zkne hz hx4 (by show kd e ≠ 0; exact hn))
  have hAf : AL E μf q_5 b 16 [] := (hAL.monox k4 (by simpa using Ne.symm hxq) (by simpa using Ne.symm hxb)).monox kf (by simpa using Ne.symm hxq) (by simpa using Ne.symm hxb)
  have kall : zKx [x] μ μf := (k1.tr k4).tr kf
  refine ⟨q_18, q_31, q_40, fun _ => 0, fun _ => q_5, fun _ => b, fun _ => 16, fun _ => [], ⟨hxf, hLL.mono (fun z e hz hk => kx0 z e hz (by omega)), ⟨fun i i0 i1 => ⟨hAf, rfl, (by show (0 : Int) ≤ 16; decide), fun j j0 j1 => by dsimp only at j1; omega⟩, fun i j i0 i1 j0 j1 _ => by omega, fun i j i0 i1 j0 j1 _ => Or.inl (by omega)⟩, ⟨by omega, by omega⟩, hO.mono (fun z e hz hk => kall z e hz (by simpa using zkne hz hw (by show kd e ≠ 0; omega))), fun i i0 i1 => ?_⟩, m1, m2, Ne.symm n401, d1 _ (d4 _ g31), d1 _ (d4 _ g40), kall⟩
  obtain ⟨g1, hg1⟩ := hO.2.2
  exact Ne.symm (zne hg1 hb0)
