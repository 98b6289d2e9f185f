/-! X SIDE 48: load -/
set_option maxRecDepth 100000
/-- the present list replaced by a new one -/
theorem xC.newL {E : zE} {μ0 μ μ' : zM} {x h mk tx : Nat} {tl : Int} {fo pc : Option Nat} {hs : Int} {lo hi : Int} {ad it ar cp : Int → Nat} {rs : Int → List Nat} {ro : Int → Int → Int} (hC : xC E μ x h mk tx tl fo pc hs lo hi ad it ar cp rs ro) (hk : ∀ i, lo ≤ i → i < hi → (∃ e, μ0 (it i) = some e) ∧ ∃ e, μ0 (ar i) = some e) (hz : ∃ e, μ0 (zs E 1) = some e) {rl b c : Nat} {r0 : List Nat} {a : Int → Int} {tl' : Int} (hrl : μ0 rl = none) (hb : μ0 b = none) (hn : EL E μ' rl b c r0 a) (hx : μ' x = some (zx0 rl h mk tx tl' fo pc hs)) (k : zKx [x] μ μ') : xC E μ' x h mk tx tl' fo pc hs lo hi ad (zf it hi rl) (zf ar hi b) (zf cp hi c) (zf rs hi r0) (zf ro hi a) := by
  obtain ⟨h1, h2, h3, h4, h5, h6⟩ := hC
  have k0 : ∀ z e, μ z = some e → kd e ≠ 0 → μ' z = some e := fun z e hz hn => k z e hz (by simpa using zkne hz h1 (by show kd e ≠ 0; exact hn))
  have ni : ∀ i, lo ≤ i → i < hi → it i ≠ rl ∧ ar i ≠ b := fun i i0 i1 => by
    obtain ⟨⟨e1, e2⟩, e3, e4⟩ := hk i i0 i1
    exact ⟨zne e2 hrl, zne e4 hb⟩
  refine ⟨by rw [zf_s]; exact hx, ?_, ⟨fun i i0 i1 => ?_, fun i j i0 i1 j0 j1 hij => ?_, fun i j i0 i1 j0 j1 hij => ?_⟩, h4, h5.mono (fun z e hz hk => k0 z e hz (by omega)), fun i i0 i1 => ?_⟩
  · have h2' := h2.mono (μ' := μ') (fun z e hz hk => k0 z e hz (by omega))
    obtain ⟨mod, a1, a2, a3, a4⟩ := h2'
    exact ⟨mod, a1, a2, fun i i0 i1 => by rw [zf_n (by omega)]; exact a3 i i0 i1, a4⟩
  · by_cases q : i = hi
    · rw [q, zf_s, zf_s, zf_s, zf_s, zf_s]; exact hn
    · rw [zf_n q, zf_n q, zf_n q, zf_n q, zf_n q]
      exact (h3.1 i i0 i1).mono (fun z e hz hk => k0 z e hz (by omega))
  · by_cases q : i = hi
    · by_cases q2 : j = hi
      · omega
      · rw [q, zf_s, zf_n q2] at hij
        exact absurd hij.symm (ni j j0 (by omega)).1
    · by_cases q2 : j = hi
      · rw [q2, zf_s, zf_n q] at hij
        exact absurd hij (ni i i0 (by omega)).1
      · rw [zf_n q, zf_n q2] at hij
        exact h3.2.1 i j i0 i1 j0 j1 hij
  · by_cases q : i = hi
    · by_cases q2 : j = hi
      · exact Or.inl (by omega)
      · rw [q, zf_s, zf_n q2] at hij
        exact absurd hij.symm (ni j j0 (by omega)).2
    · by_cases q2 : j = hi
      · rw [q2, zf_s, zf_n q] at hij
        exact absurd hij (ni i i0 (by omega)).2
      · rw [zf_n q, zf_n q2] at hij
        rw [zf_n q]
        exact h3.2.2 i j i0 i1 j0 j1 hij
  · by_cases q : i = hi
    · rw [q, zf_s]
      obtain ⟨e, he⟩ := hz
      exact Ne.symm (zne he hb)
    · rw [zf_n q]; exact h6 i i0 i1
theorem x_load (l : Launch) (E : zE) {μ : zM} {x h mk tx : Nat} {tl : Int} {fo pc : Option Nat} {hs : Int} {lo hi : Int} {ad it ar cp : Int → Nat} {rs : Int → List Nat} {ro : Int → Int → Int} (hC : xC E μ x h mk tx tl fo pc hs lo hi ad it ar cp rs ro) {Y : Int → Int} (htx : μ tx = some (zab E 150 Y)) (hY : tV tl Y) (F : Int → Int) : Met l yX0_load (Cond.codeWith yX0_load cX0_load 3 (some .int) [(0, 12, 15, 140)] :: lw_all) (zR 10 440 3000) (va_Pc [.ref x] (zPre E μ)) (zQi E (fun r μ' => if (ldR tl Y F).2.1.2 = -1000001 then (ldR tl Y F).1 = r ∧ xE1 E μ x h mk tx 0 fo pc hs lo hi ro (zf (ldR tl Y F).2.2 112 (ldR tl Y F).1) μ' else -1000003 = r ∧ zKp μ μ')) 440 3000 (zA E) := by
  have hL := hY.1
  have hx := hC.1
  have hRv := (ldR_v (L := tl) (Y := Y) (F := F) hL).1
  rw [pBl0] at *
  refine zmetH (cc := cX0_load) [_, _, _] (by decide) (Nat.le_of_ble_eq_true rfl) rfl rfl ?_
  intro X hl hX htab; subst hl
  have hX : zOK X _ cX0_load RX0 (some .int) 3 := hX
  generalize hQ : MQ _ _ _ _ _ _ _ = Q
  refine z_new hX (C := RX3) (T := TX3) (N := 3) (ci := 3) rfl in_X3 tyX3 tyX3_ok q512 q513 q80 dX0_load_0 (fs := [.int (zI 0), .null, .null]) (by decide) (by omega) (by omega) (fun q_0 f_0 => ?_)
  have kn := zKp.new f_0 (zob 3 [.int (zI 0), .null, .null])
  refine z_dup hX (by first | rfl | exact va_rf_c _) dX0_load_3 ?_
  refine z_aload_n hX rfl (by first | rfl | exact va_rf_r _) dX0_load_4 ?_
  refine z_callv (z_runIN hX (x_rdI _ _ (zu_s _ _ _) (kn _ _ hx) (kn _ _ htx) hY) ⟨va_cnB 1 hX.ts (lw_meth q516) rfl rfl rfl (hX.nw q514 rfl) (hX.t q80) (by decide +kernel) (zroom (by first | decide | omega) (by decide)), rfl, hX.t q515⟩ dX0_load_5 rfl rfl rfl (by first | exact Nat.le_of_ble_eq_true rfl | simp [va_rf_c, Value.category]) (zhf (by omega) (by omega))) (fun μ_5 h_5 => ?_)
  obtain ⟨rl, arr, hrl, harr, hRD, hA, hk⟩ := h_5
  have k0 := hk.kp1 f_0
  have hg := hRD.1
  have hbr := blk_rr (Y := Y) hL.1 (p := 0) (by omega) hL.1
  have kx : ∀ (q : Nat) (μ' : zM), (∃ w, (0 ≤ w ∧ w ≤ tl) ∧ (rdL tl Y 17 0 (blk tl Y 0, -1000001) F).2.1.2 = w ∧ μ' q = some (zTF w) ∧ zKp μ μ') → zyW X (zR 10 440 3000) E μ' 423 2822 Q 8 [some (.ref x), none, none] q := fun q μ' hx => by
    obtain ⟨w, w1, w2, w3, w4⟩ := hx
    refine zycatch hX ⟨0, 12, 15, 140⟩ htab (by decide) (by decide) q511 (hX.nw q553 rfl) w3 ?_
    show zW X (zR 10 440 3000) E μ' 423 2822 Q 15 [some (.ref x), none, none] [.ref q]
    refine z_astore_n hX (lv' := [_, _, _]) (by first | rfl | exact va_rf_r _) (Nat.le_of_ble_eq_true rfl) (by first | exact zpre_0 | exact zpre_n rfl | exact zpre_1 rfl rfl | exact zpre_1 rfl (va_rf_c _)) rfl dX0_load_15 ?_
    refine z_ldc hX (z := -1000003) q489 (by decide) dX0_load_16 ?_
    (try rw [← hQ])
    (try refine zyret ?_)
    refine z_ireturn hX dX0_load_18 (by omega) (by omega) ?_
    rw [if_neg (by rw [w2]; omega)]
    exact ⟨rfl, w4⟩
  have hrl0 : μ rl = none := kn.no hrl
  refine zy_cq (zy_rV hX (x_read (μ0 := μ) _ _ k0 f_0 (kn.no hrl) (kn.no harr) hRD (by rw [hx]; simp) (by rw [htx]; simp) hbr hA F) (cwV 0 hX.ts (lw_V q538 q539 q540 q80 q541) rfl rfl rfl (by decide +kernel) (zroom (by first | decide | omega) (by decide))) dX0_load_8 (by first | assumption | exact zu_s _ _ _ | exact zu_o (by assumption) (by assumption) | exact zu_o (by assumption) (zu_o (by assumption) (by assumption)) | exact (zu_o (by first | assumption | exact Ne.symm (by assumption)) (zu_s _ _ _)) | exact (zu_o (by first | assumption | exact Ne.symm (by assumption)) (by assumption)) | exact (zu_o (by first | assumption | exact Ne.symm (by assumption)) (zu_o (by first | assumption | exact Ne.symm (by assumption)) (zu_s _ _ _))) | exact (zu_o (by first | assumption | exact Ne.symm (by assumption)) (zu_o (by first | assumption | exact Ne.symm (by assumption)) (by assumption))) | exact (zu_o (by first | assumption | exact Ne.symm (by assumption)) (zu_o (by first | assumption | exact Ne.symm (by assumption)) (zu_o (by first | assumption | exact Ne.symm (by assumption)) (zu_s _ _ _)))) | exact (zu_o (by first | assumption | exact Ne.symm (by assumption)) (zu_o (by first | assumption | exact Ne.symm (by assumption)) (zu_o (by first | assumption | exact Ne.symm (by assumption)) (by assumption)))) | exact (zu_o (by first | assumption | exact Ne.symm (by assumption)) (zu_o (by first | assumption | exact Ne.symm (by assumption)) (zu_o (by first | assumption | exact Ne.symm (by assumption)) (zu_o (by first | assumption | exact Ne.symm (by assumption)) (zu_s _ _ _))))) | exact (zu_o (by first | assumption | exact Ne.symm (by assumption)) (zu_o (by first | assumption | exact Ne.symm (by assumption)) (zu_o (by first | assumption | exact Ne.symm (by assumption)) (zu_o (by first | assumption | exact Ne.symm (by assumption)) (by assumption))))) | exact AL.at (by assumption) | exact EL.at (by assumption) | exact LL.at (by assumption)) (ci := 3) rfl rfl rfl rfl (by first | exact Nat.le_of_ble_eq_true rfl | simp [va_rf_c, Value.category]) (zhf (by omega) (by omega))) kx (fun r_8 μ_8 h_8 => ?_)
  obtain ⟨hr, hrr, ⟨arr', rsn, hA2, ha2, hlen, hRL⟩, hk2⟩ := h_8; subst hrr
  refine z_astore_n hX (lv' := [_, _, _]) (by first | rfl | exact va_rf_r _) (Nat.le_of_ble_eq_true rfl) (by first | exact zpre_0 | exact zpre_n rfl | exact zpre_1 rfl rfl | exact zpre_1 rfl (va_rf_c _)) rfl dX0_load_11 ?_
  refine z_goto hX (tgt := 19) dX0_load_12 rfl ?_
  generalize hR : rdL tl Y 17 0 (blk tl Y 0, -1000001) F = R at *
  have hC2 := hC.kp hk2
  have hx2 := hC2.1
  refine z_aload_n hX rfl (by first | rfl | exact va_rf_r _) dX0_load_19 ?_
  refine z_callv (z_runV hX (x_note _ _ hC2) (cwV 0 hX.ts (lw_V q214 q216 qs0 q65 q217) rfl rfl rfl (by decide +kernel) (zroom (by first | decide | omega) (by decide))) dX0_load_20 (by first | assumption | exact zu_s _ _ _ | exact zu_o (by assumption) (by assumption) | exact zu_o (by assumption) (zu_o (by assumption) (by assumption)) | exact (zu_o (by first | assumption | exact Ne.symm (by assumption)) (zu_s _ _ _)) | exact (zu_o (by first | assumption | exact Ne.symm (by assumption)) (by assumption)) | exact (zu_o (by first | assumption | exact Ne.symm (by assumption)) (zu_o (by first | assumption | exact Ne.symm (by assumption)) (zu_s _ _ _))) | exact (zu_o (by first | assumption | exact Ne.symm (by assumption)) (zu_o (by first | assumption | exact Ne.symm (by assumption)) (by assumption))) | exact (zu_o (by first | assumption | exact Ne.symm (by assumption)) (zu_o (by first | assumption | exact Ne.symm (by assumption)) (zu_o (by first | assumption | exact Ne.symm (by assumption)) (zu_s _ _ _)))) | exact (zu_o (by first | assumption | exact Ne.symm (by assumption)) (zu_o (by first | assumption | exact Ne.symm (by assumption)) (zu_o (by first | assumption | exact Ne.symm (by assumption)) (by assumption)))) | exact (zu_o (by first | assumption | exact Ne.symm (by assumption)) (zu_o (by first | assumption | exact Ne.symm (by assumption)) (zu_o (by first | assumption | exact Ne.symm (by assumption)) (zu_o (by first | assumption | exact Ne.symm (by assumption)) (zu_s _ _ _))))) | exact (zu_o (by first | assumption | exact Ne.symm (by assumption)) (zu_o (by first | assumption | exact Ne.symm (by assumption)) (zu_o (by first | assumption | exact Ne.symm (by assumption)) (zu_o (by first | assumption | exact Ne.symm (by assumption)) (by assumption))))) | exact AL.at (by assumption) | exact EL.at (by assumption) | exact LL.at (by assumption)) (ci := 0) rfl rfl rfl rfl (by first | exact Nat.le_of_ble_eq_true rfl | simp [va_rf_c, Value.category]) (zhf (by omega) (by omega))) (fun μ_20 h_20 => ?_)
  obtain ⟨q, b, qn, hC3, hk3⟩ := h_20
  have hx3 := hC3.1
  obtain ⟨el, el1, el2⟩ := hA2.k17
  obtain ⟨ea, ea1, ea2⟩ := hA2.k104
  have hA3 : AL E μ_20 rl arr' 16 rsn := by
    obtain ⟨m, gg, a1, a2, a3⟩ := hA2
    exact ⟨m, gg, hk3 _ _ a1 (by show (17 : Nat) ∉ [0, 18, 19]; decide), hk3 _ _ a2 (by show (104 : Nat) ∉ [0, 18, 19]; decide), a3⟩
  have nl : rl ≠ x := zkne el1 hx2 (by rw [el2]; show (17 : Nat) ≠ 0; decide)
  have na : arr' ≠ x := zkne ea1 hx2 (by rw [ea2]; show (104 : Nat) ≠ 0; decide)
  have kf : zKx [x] μ_20 (zu μ_20 x (zx0 rl h mk tx 0 fo pc hs)) := (zKx.rf _ _).put (by simp) _
  have hAf : AL E (zu μ_20 x (zx0 rl h mk tx 0 fo pc hs)) rl arr' 16 rsn := hA3.monox kf (by simpa using nl) (by simpa using na)
  have hss := hC.2.2.2.1
  have hEn : EL E (zu μ_20 x (zx0 rl h mk tx 0 fo pc hs)) rl arr' 16 rsn (zf R.2.2 112 R.1) := by
    refine ⟨hAf, by rw [zf_s]; exact hlen, by rw [zf_s]; exact hRv.2, fun i i0 i1 => ?_⟩
    rw [zf_s] at i1
    obtain ⟨r, r1, r2⟩ := hRL i.toNat (by omega)
    refine ⟨r, r1, ?_⟩
    have r3 := kf _ _ (hk3 _ _ r2 (by show (2 : Nat) ∉ [0, 18, 19]; decide)) (by simpa using zkne r2 hx2 (by show (2 : Nat) ≠ 0; decide))
    rw [r3]
    refine congrArg some (zed_eq (fun j j0 j6 => ?_))
    rw [zf_n (by omega), show ((i.toNat : Nat) : Int) = i by omega]
  refine z_aload_n hX rfl (by first | rfl | exact va_rf_r _) dX0_load_23 ?_
  refine z_aload_n hX rfl (by first | rfl | exact va_rf_r _) dX0_load_24 ?_
  refine z_put hX (C := RX0) (T := TX0) (N := 8) (ci := 0) rfl in_X0 tyX0 tyX0_ok zn_X0 0 (by decide) q159 (Or.inl rfl) rfl rfl dX0_load_25 (by first | assumption | exact zu_s _ _ _ | exact zu_o (by assumption) (by assumption) | exact zu_o (by assumption) (zu_o (by assumption) (by assumption)) | exact (zu_o (by first | assumption | exact Ne.symm (by assumption)) (zu_s _ _ _)) | exact (zu_o (by first | assumption | exact Ne.symm (by assumption)) (by assumption)) | exact (zu_o (by first | assumption | exact Ne.symm (by assumption)) (zu_o (by first | assumption | exact Ne.symm (by assumption)) (zu_s _ _ _))) | exact (zu_o (by first | assumption | exact Ne.symm (by assumption)) (zu_o (by first | assumption | exact Ne.symm (by assumption)) (by assumption))) | exact (zu_o (by first | assumption | exact Ne.symm (by assumption)) (zu_o (by first | assumption | exact Ne.symm (by assumption)) (zu_o (by first | assumption | exact Ne.symm (by assumption)) (zu_s _ _ _)))) | exact (zu_o (by first | assumption | exact Ne.symm (by assumption)) (zu_o (by first | assumption | exact Ne.symm (by assumption)) (zu_o (by first | assumption | exact Ne.symm (by assumption)) (by assumption)))) | exact (zu_o (by first | assumption | exact Ne.symm (by assumption)) (zu_o (by first | assumption | exact Ne.symm (by assumption)) (zu_o (by first | assumption | exact Ne.symm (by assumption)) (zu_o (by first | assumption | exact Ne.symm (by assumption)) (zu_s _ _ _))))) | exact (zu_o (by first | assumption | exact Ne.symm (by assumption)) (zu_o (by first | assumption | exact Ne.symm (by assumption)) (zu_o (by first | assumption | exact Ne.symm (by assumption)) (zu_o (by first | assumption | exact Ne.symm (by assumption)) (by assumption))))) | exact AL.at (by assumption) | exact EL.at (by assumption) | exact LL.at (by assumption)) (Nat.le_of_ble_eq_true rfl) (by first | rfl | exact znar _ | exact znarb _) (by first | rfl | exact zfit _ | exact zfitb _) rfl ?_
  refine z_aload_n hX rfl (by first | rfl | exact va_rf_r _) dX0_load_28 ?_
  refine z_iconst hX dX0_load_29 ?_
  refine z_put hX (C := RX0) (T := TX0) (N := 8) (ci := 0) rfl in_X0 tyX0 tyX0_ok zn_X0 4 (by decide) q166 (Or.inl rfl) rfl rfl dX0_load_30 (by first | assumption | exact zu_s _ _ _ | exact zu_o (by assumption) (by assumption) | exact zu_o (by assumption) (zu_o (by assumption) (by assumption)) | exact (zu_o (by first | assumption | exact Ne.symm (by assumption)) (zu_s _ _ _)) | exact (zu_o (by first | assumption | exact Ne.symm (by assumption)) (by assumption)) | exact (zu_o (by first | assumption | exact Ne.symm (by assumption)) (zu_o (by first | assumption | exact Ne.symm (by assumption)) (zu_s _ _ _))) | exact (zu_o (by first | assumption | exact Ne.symm (by assumption)) (zu_o (by first | assumption | exact Ne.symm (by assumption)) (by assumption))) | exact (zu_o (by first | assumption | exact Ne.symm (by assumption)) (zu_o (by first | assumption | exact Ne.symm (by assumption)) (zu_o (by first | assumption | exact Ne.symm (by assumption)) (zu_s _ _ _)))) | exact (zu_o (by first | assumption | exact Ne.symm (by assumption)) (zu_o (by first | assumption | exact Ne.symm (by assumption)) (zu_o (by first | assumption | exact Ne.symm (by assumption)) (by assumption)))) | exact (zu_o (by first | assumption | exact Ne.symm (by assumption)) (zu_o (by first | assumption | exact Ne.symm (by assumption)) (zu_o (by first | assumption | exact Ne.symm (by assumption)) (zu_o (by first | assumption | exact Ne.symm (by assumption)) (zu_s _ _ _))))) | exact (zu_o (by first | assumption | exact Ne.symm (by assumption)) (zu_o (by first | assumption | exact Ne.symm (by assumption)) (zu_o (by first | assumption | exact Ne.symm (by assumption)) (zu_o (by first | assumption | exact Ne.symm (by assumption)) (by assumption))))) | exact AL.at (by assumption) | exact EL.at (by assumption) | exact LL.at (by assumption)) (Nat.le_of_ble_eq_true rfl) (by first | rfl | exact znar _ | exact znarb _) (by first | rfl | exact zfit _ | exact zfitb _) rfl ?_
  rw [zu_zu]
  refine zW.mu (μ' := zu μ_20 x (zx0 rl h mk tx 0 fo pc hs)) rfl ?_
  have hxf : (zu μ_20 x (zx0 rl h mk tx 0 fo pc hs)) x = some (zob 0 [.ref rl, .ref h, .ref mk, .ref tx, .int (zI 0), va_rf fo, va_rf pc, .long (zJ hs)]) := zu_s _ _ _
  refine z_aload_n hX rfl (by first | rfl | exact va_rf_r _) dX0_load_33 ?_
  refine z_get hX (C := RX0) (T := TX0) (N := 8) (ci := 0) rfl in_X0 0 (by decide) q159 (Or.inl rfl) dX0_load_34 (by first | assumption | exact zu_s _ _ _ | exact zu_o (by assumption) (by assumption) | exact zu_o (by assumption) (zu_o (by assumption) (by assumption)) | exact (zu_o (by first | assumption | exact Ne.symm (by assumption)) (zu_s _ _ _)) | exact (zu_o (by first | assumption | exact Ne.symm (by assumption)) (by assumption)) | exact (zu_o (by first | assumption | exact Ne.symm (by assumption)) (zu_o (by first | assumption | exact Ne.symm (by assumption)) (zu_s _ _ _))) | exact (zu_o (by first | assumption | exact Ne.symm (by assumption)) (zu_o (by first | assumption | exact Ne.symm (by assumption)) (by assumption))) | exact (zu_o (by first | assumption | exact Ne.symm (by assumption)) (zu_o (by first | assumption | exact Ne.symm (by assumption)) (zu_o (by first | assumption | exact Ne.symm (by assumption)) (zu_s _ _ _)))) | exact (zu_o (by first | assumption | exact Ne.symm (by assumption)) (zu_o (by first | assumption | exact Ne.symm (by assumption)) (zu_o (by first | assumption | exact Ne.symm (by assumption)) (by assumption)))) | exact (zu_o (by first | assumption | exact Ne.symm (by assumption)) (zu_o (by first | assumption | exact Ne.symm (by assumption)) (zu_o (by first | assumption | exact Ne.symm (by assumption)) (zu_o (by first | assumption | exact Ne.symm (by assumption)) (zu_s _ _ _))))) | exact (zu_o (by first | assumption | exact Ne.symm (by assumption)) (zu_o (by first | assumption | exact Ne.symm (by assumption)) (zu_o (by first | assumption | exact Ne.symm (by assumption)) (zu_o (by first | assumption | exact Ne.symm (by assumption)) (by assumption))))) | exact AL.at (by assumption) | exact EL.at (by assumption) | exact LL.at (by assumption)) rfl ?_
  refine z_calli (z_runV hX (x_size _ _ hAf) (cwV 0 hX.ts (lw_V q209 q210 q211 q68 q212) rfl rfl rfl (by decide +kernel) (zroom (by first | decide | omega) (by decide))) dX0_load_37 (by first | assumption | exact zu_s _ _ _ | exact zu_o (by assumption) (by assumption) | exact zu_o (by assumption) (zu_o (by assumption) (by assumption)) | exact (zu_o (by first | assumption | exact Ne.symm (by assumption)) (zu_s _ _ _)) | exact (zu_o (by first | assumption | exact Ne.symm (by assumption)) (by assumption)) | exact (zu_o (by first | assumption | exact Ne.symm (by assumption)) (zu_o (by first | assumption | exact Ne.symm (by assumption)) (zu_s _ _ _))) | exact (zu_o (by first | assumption | exact Ne.symm (by assumption)) (zu_o (by first | assumption | exact Ne.symm (by assumption)) (by assumption))) | exact (zu_o (by first | assumption | exact Ne.symm (by assumption)) (zu_o (by first | assumption | exact Ne.symm (by assumption)) (zu_o (by first | assumption | exact Ne.symm (by assumption)) (zu_s _ _ _)))) | exact (zu_o (by first | assumption | exact Ne.symm (by assumption)) (zu_o (by first | assumption | exact Ne.symm (by assumption)) (zu_o (by first | assumption | exact Ne.symm (by assumption)) (by assumption)))) | exact (zu_o (by first | assumption | exact Ne.symm (by assumption)) (zu_o (by first | assumption | exact Ne.symm (by assumption)) (zu_o (by first | assumption | exact Ne.symm (by assumption)) (zu_o (by first | assumption | exact Ne.symm (by assumption)) (zu_s _ _ _))))) | exact (zu_o (by first | assumption | exact Ne.symm (by assumption)) (zu_o (by first | assumption | exact Ne.symm (by assumption)) (zu_o (by first | assumption | exact Ne.symm (by assumption)) (zu_o (by first | assumption | exact Ne.symm (by assumption)) (by assumption))))) | exact AL.at (by assumption) | exact EL.at (by assumption) | exact LL.at (by assumption)) (ci := 17) rfl rfl rfl rfl (by first | exact Nat.le_of_ble_eq_true rfl | simp [va_rf_c, Value.category]) (zhf (by omega) (by omega))) (fun r_37 μ_37 h_37 => ?_)
  obtain ⟨rfl, rfl⟩ := h_37
  (try rw [← hQ])
  (try refine zyret ?_)
  refine z_ireturn hX dX0_load_40 (by omega) (by omega) ?_
  rw [if_pos hr]
  have hold : ∀ i, (if hi - lo = 12 then lo + 1 else lo) ≤ i → i < hi + 1 → (∃ e, μ (zf it (hi + 1) q i) = some e) ∧ ∃ e, μ (zf ar (hi + 1) b i) = some e := fun i i0 i1 => by
    have hE := hC.2.2.1.1 i (by split at i0 <;> omega) (by omega)
    obtain ⟨e1, e2, -⟩ := hE.1.k17
    obtain ⟨e3, e4, -⟩ := hE.1.k104
    rw [zf_n (by omega), zf_n (by omega)]
    exact ⟨⟨e1, e2⟩, e3, e4⟩
  have hN := hC3.newL (μ0 := μ) hold (by
    obtain ⟨g1, hg1⟩ := hC.2.2.2.2.1.2.2
    exact ⟨_, hg1⟩) hrl0 ha2 hEn (zu_s _ _ _) kf
  rw [zf_zf ro] at hN
  exact ⟨hlen.symm, _, _, _, _, _, hN, fun z e hz hn => by
    simp only [List.mem_cons, List.not_mem_nil, or_false, not_or] at hn
    refine kf z e (hk3 z e (hk2 z e hz) (by simp only [List.mem_cons, List.not_mem_nil, or_false, not_or]; exact ⟨hn.1, hn.2.2.1, hn.2.2.2.1⟩)) (by simpa using zkne hz hx (by show kd e ≠ 0; exact hn.1))⟩
