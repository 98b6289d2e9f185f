/-! X SIDE 46: the reader made; fault, load -/
set_option maxRecDepth 100000
theorem x_rdI (l : Launch) (E : zE) {μ : zM} {g x tx Lp h mk : Nat} {L : Int} {fo pc : Option Nat} {hs : Int} {Y : Int → Int} (hw : μ g = some (zob 3 [.int (zI 0), .null, .null])) (hx : μ x = some (zx0 Lp h mk tx L fo pc hs)) (htx : μ tx = some (zab E 150 Y)) (hY : tV L Y) : Met l yX3_init (ws_ yX3_init cX3_init 2 none) (zR 5 2 19) (va_Pc [.ref g, .ref x] (zPre E μ)) (zQv E (fun μ' => ∃ rl arr, μ rl = none ∧ μ arr = none ∧ RD E μ' g rl x tx L Y (blk L Y 0) ∧ AL E μ' rl arr 16 [] ∧ zKx [g] μ μ')) 2 19 (zA E) := by
  have hL := hY.1
  refine zmet (cc := cX3_init) [_, _] (by decide) (Nat.le_of_ble_eq_true rfl) rfl rfl ?_
  intro X hl hX hinit; subst hl
  have hX : zOK X _ cX3_init RX3 none 2 := hX
  generalize hQ : MQ _ _ _ _ _ _ _ = Q
  refine z_aload_n hX rfl (by first | rfl | exact va_rf_r _) dX3_init_0 ?_
  refine z_aload_n hX rfl (by first | rfl | exact va_rf_r _) dX3_init_1 ?_
  refine z_putF hX hinit (C := RX3) (T := TX3) (N := 3) (ci := 3) rfl in_X3 tyX3 tyX3_ok zn_X3 2 (by decide) q530 (Or.inl rfl) rfl rfl rfl dX3_init_2 (by first | assumption | exact zu_s _ _ _ | exact zu_o (by assumption) (by assumption) | exact zu_o (by assumption) (zu_o (by assumption) (by assumption)) | exact (zu_o (by first | assumption | exact Ne.symm (by assumption)) (zu_s _ _ _)) | exact (zu_o (by first | assumption | exact Ne.symm (by assumption)) (by assumption)) | exact (zu_o (by first | assumption | exact Ne.symm (by assumption)) (zu_o (by first | assumption | exact Ne.symm (by assumption)) (zu_s _ _ _))) | exact (zu_o (by first | assumption | exact Ne.symm (by assumption)) (zu_o (by first | assumption | exact Ne.symm (by assumption)) (by assumption))) | exact (zu_o (by first | assumption | exact Ne.symm (by assumption)) (zu_o (by first | assumption | exact Ne.symm (by assumption)) (zu_o (by first | assumption | exact Ne.symm (by assumption)) (zu_s _ _ _)))) | exact (zu_o (by first | assumption | exact Ne.symm (by assumption)) (zu_o (by first | assumption | exact Ne.symm (by assumption)) (zu_o (by first | assumption | exact Ne.symm (by assumption)) (by assumption)))) | exact (zu_o (by first | assumption | exact Ne.symm (by assumption)) (zu_o (by first | assumption | exact Ne.symm (by assumption)) (zu_o (by first | assumption | exact Ne.symm (by assumption)) (zu_o (by first | assumption | exact Ne.symm (by assumption)) (zu_s _ _ _))))) | exact (zu_o (by first | assumption | exact Ne.symm (by assumption)) (zu_o (by first | assumption | exact Ne.symm (by assumption)) (zu_o (by first | assumption | exact Ne.symm (by assumption)) (zu_o (by first | assumption | exact Ne.symm (by assumption)) (by assumption))))) | exact AL.at (by assumption) | exact EL.at (by assumption) | exact LL.at (by assumption)) (Nat.le_of_ble_eq_true rfl) (by first | rfl | exact znar _ | exact znarb _) (by first | rfl | exact zfit _ | exact zfitb _) rfl ?_
  refine z_aload_n hX rfl (by first | rfl | exact va_rf_r _) dX3_init_5 ?_
  refine z_objInit hX q517 dX3_init_6 rfl ⟨Nat.le_of_ble_eq_true rfl, Nat.le_of_ble_eq_true rfl⟩ (by first | exact Nat.le_of_ble_eq_true rfl | simp [va_rf_c, Value.category]) ?_
  refine z_aload_n hX rfl (by first | rfl | exact va_rf_r _) dX3_init_9 ?_
  refine z_new hX (C := RJ2) (T := TJ2) (N := 3) (ci := 17) rfl in_J2 tyJ2 tyJ2_ok q518 q108 q68 dX3_init_10 (fs := [.int (zI 0), .null, .int (zI 0)]) (by decide) (by omega) (by omega) (fun q_10 f_10 => ?_)
  have h1 := (zu_none f_10).1
  have hne := (zu_none f_10).2
  have hzz : (zu (zu μ g (zob 3 ([.int (zI 0), .null, .null].set 2 (.ref x)))) q_10 (zob 17 [.int (zI 0), .null, .int (zI 0)])) q_10 = some (zob 17 [.int (zI 0), .null, .int (zI 0)]) := zu_s _ _ _
  have hgg : (zu (zu μ g (zob 3 ([.int (zI 0), .null, .null].set 2 (.ref x)))) q_10 (zob 17 [.int (zI 0), .null, .int (zI 0)])) g = some (zob 3 [.int (zI 0), .null, .ref x]) := zu_o (Ne.symm hne) (zu_s _ _ _)
  have k1 : zKx [g] μ (zu (zu μ g (zob 3 ([.int (zI 0), .null, .null].set 2 (.ref x)))) q_10 (zob 17 [.int (zI 0), .null, .int (zI 0)])) := ((zKx.rf [g] μ).put (by simp) _).nu h1 _
  generalize zu (zu μ g (zob 3 ([.int (zI 0), .null, .null].set 2 (.ref x)))) q_10 (zob 17 [.int (zI 0), .null, .int (zI 0)]) = μ1 at *
  refine z_dup hX (by first | rfl | exact va_rf_c _) dX3_init_13 ?_
  refine z_bipush hX (by decide) dX3_init_14 ?_
  refine z_callv (z_runI hX (x_alI (n := 16) _ _ hzz (by omega)) (cwI 1 hX.ts (lw_meth q111) rfl rfl rfl (hX.t q68) (hX.t q519) (hX.t q110) rfl (by decide +kernel) (zroom (by first | decide | omega) (by decide))) dX3_init_16 rfl rfl rfl (by first | exact Nat.le_of_ble_eq_true rfl | simp [va_rf_c, Value.category]) (zhf (by omega) (by omega))) (fun μ_16 h_16 => ?_)
  obtain ⟨b, hb, hAL, hf⟩ := h_16
  have hbg : g ≠ b := zne hgg hb
  have hg16 : μ_16 g = some (zob 3 [.int (zI 0), .null, .ref x]) := by rw [hf g (Ne.symm hne) hbg]; exact hgg
  have hb0 : μ b = none := by
    cases hh : μ b with
    | none => rfl
    | some e => have := k1 b e hh (by simpa using Ne.symm hbg); rw [hb] at this; cases this
  have k2 : zKx [g] μ μ_16 := fun z e hz hn => by
    rw [hf z (zne hz h1) (zne hz hb0)]
    exact k1 z e hz hn
  have k3 : ∀ e, zKx [g] μ (zu μ_16 g e) := fun e => k2.put (by simp) _
  have nxg : x ≠ g := zkne hx hw (by show (0 : Nat) ≠ 3; decide)
  have ntg : tx ≠ g := zkne htx hw (by show (100 : Nat) ≠ 3; decide)
  have hR : RD E (zu μ_16 g (zob 3 ([.int (zI 0), .null, .ref x].set 1 (.ref q_10)))) g q_10 x tx L Y 0 := ⟨zu_s _ _ _, ⟨Lp, h, mk, fo, pc, hs, k3 _ _ _ hx (by simpa using nxg)⟩, k3 _ _ _ htx (by simpa using ntg), hY⟩
  have hgR := hR.1
  refine z_putF hX hinit (C := RX3) (T := TX3) (N := 3) (ci := 3) rfl in_X3 tyX3 tyX3_ok zn_X3 1 (by decide) q529 (Or.inl rfl) rfl rfl rfl dX3_init_19 (by first | assumption | exact zu_s _ _ _ | exact zu_o (by assumption) (by assumption) | exact zu_o (by assumption) (zu_o (by assumption) (by assumption)) | exact (zu_o (by first | assumption | exact Ne.symm (by assumption)) (zu_s _ _ _)) | exact (zu_o (by first | assumption | exact Ne.symm (by assumption)) (by assumption)) | exact (zu_o (by first | assumption | exact Ne.symm (by assumption)) (zu_o (by first | assumption | exact Ne.symm (by assumption)) (zu_s _ _ _))) | exact (zu_o (by first | assumption | exact Ne.symm (by assumption)) (zu_o (by first | assumption | exact Ne.symm (by assumption)) (by assumption))) | exact (zu_o (by first | assumption | exact Ne.symm (by assumption)) (zu_o (by first | assumption | exact Ne.symm (by assumption)) (zu_o (by first | assumption | exact Ne.symm (by assumption)) (zu_s _ _ _)))) | exact (zu_o (by first | assumption | exact Ne.symm (by assumption)) (zu_o (by first | assumption | exact Ne.symm (by assumption)) (zu_o (by first | assumption | exact Ne.symm (by assumption)) (by assumption)))) | exact (zu_o (by first | assumption | exact Ne.symm (by assumption)) (zu_o (by first | assumption | exact Ne.symm (by assumption)) (zu_o (by first | assumption | exact Ne.symm (by assumption)) (zu_o (by first | assumption | exact Ne.symm (by assumption)) (zu_s _ _ _))))) | exact (zu_o (by first | assumption | exact Ne.symm (by assumption)) (zu_o (by first | assumption | exact Ne.symm (by assumption)) (zu_o (by first | assumption | exact Ne.symm (by assumption)) (zu_o (by first | assumption | exact Ne.symm (by assumption)) (by assumption))))) | exact AL.at (by assumption) | exact EL.at (by assumption) | exact LL.at (by assumption)) (Nat.le_of_ble_eq_true rfl) (by first | rfl | exact znar _ | exact znarb _) (by first | rfl | exact zfit _ | exact zfitb _) rfl ?_
  refine z_aload_n hX rfl (by first | rfl | exact va_rf_r _) dX3_init_22 ?_
  refine z_callv (z_runV hX (x_blanks _ _ hR (by omega) (by omega)) (cwV 0 hX.ts (lw_V q520 q522 qs8 q80 q523) rfl rfl rfl (by decide +kernel) (zroom (by first | decide | omega) (by decide))) dX3_init_23 (by first | assumption | exact zu_s _ _ _ | exact zu_o (by assumption) (by assumption) | exact zu_o (by assumption) (zu_o (by assumption) (by assumption)) | exact (zu_o (by first | assumption | exact Ne.symm (by assumption)) (zu_s _ _ _)) | exact (zu_o (by first | assumption | exact Ne.symm (by assumption)) (by assumption)) | exact (zu_o (by first | assumption | exact Ne.symm (by assumption)) (zu_o (by first | assumption | exact Ne.symm (by assumption)) (zu_s _ _ _))) | exact (zu_o (by first | assumption | exact Ne.symm (by assumption)) (zu_o (by first | assumption | exact Ne.symm (by assumption)) (by assumption))) | exact (zu_o (by first | assumption | exact Ne.symm (by assumption)) (zu_o (by first | assumption | exact Ne.symm (by assumption)) (zu_o (by first | assumption | exact Ne.symm (by assumption)) (zu_s _ _ _)))) | exact (zu_o (by first | assumption | exact Ne.symm (by assumption)) (zu_o (by first | assumption | exact Ne.symm (by assumption)) (zu_o (by first | assumption | exact Ne.symm (by assumption)) (by assumption)))) | exact (zu_o (by first | assumption | exact Ne.symm (by assumption)) (zu_o (by first | assumption | exact Ne.symm (by assumption)) (zu_o (by first | assumption | exact Ne.symm (by assumption)) (zu_o (by first | assumption | exact Ne.symm (by assumption)) (zu_s _ _ _))))) | exact (zu_o (by first | assumption | exact Ne.symm (by assumption)) (zu_o (by first | assumption | exact Ne.symm (by assumption)) (zu_o (by first | assumption | exact Ne.symm (by assumption)) (zu_o (by first | assumption | exact Ne.symm (by assumption)) (by assumption))))) | exact AL.at (by assumption) | exact EL.at (by assumption) | exact LL.at (by assumption)) (ci := 3) rfl rfl rfl rfl (by first | exact Nat.le_of_ble_eq_true rfl | simp [va_rf_c, Value.category]) (zhf (by omega) (by omega))) (fun μ_23 h_23 => ?_)
  obtain rfl := h_23; rw [zu_zu]
  (try rw [← hQ])
  (try refine zyret ?_)
  refine z_return hX dX3_init_26 (by omega) (by omega) ?_
  have hA2 : AL E (zu μ_16 g (zrd (blk L Y 0) q_10 x)) q_10 b 16 [] := hAL.monox ((zKx.rf [g] _).put (by simp) _) (by simpa using hne) (by simpa using Ne.symm hbg)
  exact ⟨q_10, b, h1, hb0, ⟨zu_s _ _ _, ⟨Lp, h, mk, fo, pc, hs, k3 _ _ _ hx (by simpa using nxg)⟩, k3 _ _ _ htx (by simpa using ntg), hY⟩, hA2, k3 _⟩
/-- a method with handlers that returns -/
theorem zmetH {l : Launch} {y : MethodName} {cc : ByteArray} {nL k mc ms : Nat} {ret : Option FieldType} {hh : List (Nat × Nat × Nat × Nat)} {E : zE} {av : List Value} {μ : zM} {Qc : Array Value → State → Outcome → State → Prop} (lv : List (Option Value)) (hy : plainName y.cls = true) (h0 : (lg_sl av).length ≤ nL) (hl : zargs av ++ List.replicate (nL - (zargs av).length) none = lv) (hn : lv.length = nL)
    (body : ∀ X : zX, zXl X = l → zOK X E cc y.cls ret nL → (zXc X).exceptionTable.toList = tableOf hh → zW X (zR k mc ms) E μ 0 0 (MQ (zXb X) Qc (zXa X) (zXs X) mc ms (zA E)) 0 lv []) : Met l y (Cond.codeWith y cc nL ret hh :: lw_all) (zR k mc ms) (va_Pc av (zPre E μ)) Qc mc ms (zA E) := by
  have h : zy_Met l y (Cond.codeWith y cc nL ret hh :: lw_all) (zR k mc ms) (va_Pc av (zPre E μ)) Qc (fun _ _ _ _ => False) mc ms (zA E) := by
    refine zy_ofWH (cc := cc) (maxL := nL) (ret := ret) (hh := hh) hy rfl ?_
    intro p e s m args below meth c s₁ B hml hv
    obtain ⟨rfl, hp1, hp2, hp3, hp4, hp5⟩ := hv
    have hts := atoms_spec (ws := Cond.codeWith y cc nL ret hh :: lw_all) B.pre
    have htab := zy_table (x := y) B (hts _ List.mem_cons_self)
    have hts : ∀ w ∈ lw_all, w.before av.toArray s = true := fun w h => hts w (List.mem_cons_of_mem _ h)
    have hX : zOK (p, l, e, s, m, av.toArray, below, meth, c) E cc y.cls ret nL := ⟨B.exec, B.bytes, findClass_of_methodNamed B.named, hts, hp1, hp2, hp3, B.notSynchronized, hp4, B.returns, hml⟩
    rw [lg_entry_eq]
    exact zy_ret (body (p, l, e, s, m, av.toArray, below, meth, c) rfl hX htab s.heap [] _ hp5 va_S.rf (zargs_L h0 hl hn))
  refine Jvm.Free.MetFree.mono h (fun _ _ q => q) (fun _ _ _ _ _ q => q) (fun a s o t _ q => ?_)
  rcases q with q | ⟨_, _, _, _, _, hx, _⟩
  · exact q
  · exact hx.elim
