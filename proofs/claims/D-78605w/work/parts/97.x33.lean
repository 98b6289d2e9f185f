/-! X SIDE 33: length, pieces, piece -/
set_option maxRecDepth 100000
theorem lcF_b {a : Int → Int} (hg : gV a) {n d : Int} (hn : -999 ≤ n ∧ n ≤ 999) (hd : -99 ≤ d ∧ d ≤ 99) : ∀ e, 0 ≤ e → e < a 112 → -1000000 ≤ lcF a n d e ∧ lcF a n d e ≤ 1000000 := fun e h0 h1 => by
  have he := hg.2 e h0 h1
  unfold eV at he
  have b1 := mul_r (q := d) (w := a (7 * e + 2)) (M := 99) (N := 99) (by omega) (by omega)
  have b2 := mul_r (q := n) (w := a (7 * e + 3)) (M := 999) (N := 9) (by omega) (by omega)
  unfold lcF
  omega
theorem lqN_b {a c : Int → Int} (hg : gV a) (hc : ∀ e, 0 ≤ e → e < a 112 → -1000000 ≤ c e ∧ c e ≤ 1000000) : ∀ (es : List Int) (M : Int) (f : Int → Int), (∀ e ∈ es, 0 ≤ e ∧ e < a 112) → 0 ≤ M → M + 1000000 * es.length ≤ 1000000000000 → kB M f → kB (M + 1000000 * es.length) (es.foldl (lqE a c) f)
  | [], M, f, _, _, _, h => by simpa using h
  | e :: es, M, f, hm, h0, h1, h => by
    have h2 := hm e List.mem_cons_self
    rw [List.length_cons] at h1 ⊢
    have h3 := lqN_b hg hc es (M + 1000000) _ (fun z hz => hm z (List.mem_cons_of_mem _ hz)) (by omega) (by omega) (lqE_b hg h2.1 h2.2 (by omega) (hc e h2.1 h2.2) h)
    rw [List.foldl_cons, show M + 1000000 * ((es.length + 1 : Nat) : Int) = M + 1000000 + 1000000 * (es.length : Int) by omega]
    exact h3
theorem lqM_b {a c : Int → Int} (hg : gV a) (hc : ∀ e, 0 ≤ e → e < a 112 → -1000000 ≤ c e ∧ c e ≤ 1000000) : ∀ (k : Nat) (M : Int) (f : Int → Int), 0 ≤ M → M + 16000000 * k ≤ 100000000000 → kB M f → kB (M + 16000000 * k) (lqN a c k f)
  | 0, M, f, _, _, h => by simpa [lqN] using h
  | k + 1, M, f, h0, h1, h => by
    have h16 := hg.1
    have h2 := lqN_b hg hc (er 0 (a 112)) M f (fun e he => er_mem.mp he) h0 (by rw [er_len]; omega) h
    have h3 : kB (M + 16000000) ((er 0 (a 112)).foldl (lqE a c) f) := fun v v0 v7 => by
      have := h2 v v0 v7
      rw [er_len] at this
      omega
    have h4 := lqM_b hg hc k (M + 16000000) _ (by omega) (by omega) h3
    rw [show M + 16000000 * ((k + 1 : Nat) : Int) = M + 16000000 + 16000000 * (k : Int) by omega]
    exact h4
theorem lqF_b {a c : Int → Int} (hg : gV a) (hc : ∀ e, 0 ≤ e → e < a 112 → -1000000 ≤ c e ∧ c e ≤ 1000000) (f t : Int) (ht : 0 ≤ t ∧ t ≤ 7) : lqF a c f t = 1125899906842624 ∨ (-128000000 ≤ lqF a c f t ∧ lqF a c f t ≤ 128000000) := by
  have := lqM_b hg hc 8 0 (fun v => if v = f then 0 else 1125899906842624) (by omega) (by omega) (fun v _ _ => by
    dsimp only
    split
    · exact Or.inr ⟨by omega, by omega⟩
    · exact Or.inl rfl) t ht.1 ht.2
  unfold lqF
  omega
/-- length as answered -/
def xlnV (a : Int → Int) (f t p q : Int) : Int := if (xBt a f t).testBit t.toNat = false then -1000001 else if (rxM a (lcF a (frN p q) (frD p q)) (xBt a f t) 9 (fun _ => 0)).2 = false then -1000005 else lqF a (lcF a (frN p q) (frD p q)) f t * (q / frD p q)
def xlnR (a : Int → Int) (f t p q : Int) : Int := if (0 ≤ f ∧ f ≤ 7) ∧ (0 ≤ t ∧ t ≤ 7) ∧ (-999 ≤ p ∧ p ≤ 999) ∧ 1 ≤ q ∧ q ≤ 99 then xlnV a f t p q else gBAD
theorem x_length (l : Launch) (E : zE) {μ : zM} {x : Nat} {a : Int → Int} (hG : xG E μ x a) (hg : gV a) {f t p q : Int} (hf : iR f) (ht : iR t) (hp : iR p) (hq : iR q) : Met l yX0_length (ws_ yX0_length cX0_length 7 (some .long)) (zR 6 10 50) (va_Pc [.ref x, .int (zI f), .int (zI t), .int (zI p), .int (zI q)] (zPre E μ)) (zQl E (fun r μ' => xlnR a f t p q = r ∧ zKp μ μ')) 10 50 (zA E) := by
  have hG0 := hG
  obtain ⟨L, arr, cp, rs, h', mk, tx, tl, fo, pc, hs, hx, hE⟩ := hG0
  generalize hT : xlnR a f t p q = T
  unfold xlnR at hT
  unfold iR at hf ht hp hq
  refine zmet (cc := cX0_length) [_, _, _, _, _, _, _] (by decide) (Nat.le_of_ble_eq_true rfl) rfl rfl ?_
  intro X hl hX hinit; subst hl
  have hX : zOK X _ cX0_length RX0 (some .long) 7 := hX
  generalize hQ : MQ _ _ _ _ _ _ _ = Q
  refine z_iconst hX dX0_length_0 ?_
  refine z_newI hX 2 q187 dX0_length_1 rfl (by decide) (by omega) (by omega) (fun q_1 f_1 => ?_)
  refine z_dup hX (by first | rfl | exact va_rf_c _) dX0_length_3 ?_
  refine z_iconst hX dX0_length_4 ?_
  refine z_iload_n hX rfl dX0_length_5 ?_
  refine z_iastore hX dX0_length_6 (by first | assumption | exact zu_s _ _ _ | exact zu_o (by assumption) (by assumption) | exact zu_o (by assumption) (zu_o (by assumption) (by assumption)) | exact (zu_o (by first | assumption | exact Ne.symm (by assumption)) (zu_s _ _ _)) | exact (zu_o (by first | assumption | exact Ne.symm (by assumption)) (by assumption)) | exact (zu_o (by first | assumption | exact Ne.symm (by assumption)) (zu_o (by first | assumption | exact Ne.symm (by assumption)) (zu_s _ _ _))) | exact (zu_o (by first | assumption | exact Ne.symm (by assumption)) (zu_o (by first | assumption | exact Ne.symm (by assumption)) (by assumption))) | exact (zu_o (by first | assumption | exact Ne.symm (by assumption)) (zu_o (by first | assumption | exact Ne.symm (by assumption)) (zu_o (by first | assumption | exact Ne.symm (by assumption)) (zu_s _ _ _)))) | exact (zu_o (by first | assumption | exact Ne.symm (by assumption)) (zu_o (by first | assumption | exact Ne.symm (by assumption)) (zu_o (by first | assumption | exact Ne.symm (by assumption)) (by assumption)))) | exact (zu_o (by first | assumption | exact Ne.symm (by assumption)) (zu_o (by first | assumption | exact Ne.symm (by assumption)) (zu_o (by first | assumption | exact Ne.symm (by assumption)) (zu_o (by first | assumption | exact Ne.symm (by assumption)) (zu_s _ _ _))))) | exact (zu_o (by first | assumption | exact Ne.symm (by assumption)) (zu_o (by first | assumption | exact Ne.symm (by assumption)) (zu_o (by first | assumption | exact Ne.symm (by assumption)) (zu_o (by first | assumption | exact Ne.symm (by assumption)) (by assumption))))) | exact AL.at (by assumption) | exact EL.at (by assumption) | exact LL.at (by assumption)) (by omega) ?_
  refine z_dup hX (by first | rfl | exact va_rf_c _) dX0_length_7 ?_
  refine z_iconst hX dX0_length_8 ?_
  refine z_iload_n hX rfl dX0_length_9 ?_
  refine z_iastore hX dX0_length_10 (by first | assumption | exact zu_s _ _ _ | exact zu_o (by assumption) (by assumption) | exact zu_o (by assumption) (zu_o (by assumption) (by assumption)) | exact (zu_o (by first | assumption | exact Ne.symm (by assumption)) (zu_s _ _ _)) | exact (zu_o (by first | assumption | exact Ne.symm (by assumption)) (by assumption)) | exact (zu_o (by first | assumption | exact Ne.symm (by assumption)) (zu_o (by first | assumption | exact Ne.symm (by assumption)) (zu_s _ _ _))) | exact (zu_o (by first | assumption | exact Ne.symm (by assumption)) (zu_o (by first | assumption | exact Ne.symm (by assumption)) (by assumption))) | exact (zu_o (by first | assumption | exact Ne.symm (by assumption)) (zu_o (by first | assumption | exact Ne.symm (by assumption)) (zu_o (by first | assumption | exact Ne.symm (by assumption)) (zu_s _ _ _)))) | exact (zu_o (by first | assumption | exact Ne.symm (by assumption)) (zu_o (by first | assumption | exact Ne.symm (by assumption)) (zu_o (by first | assumption | exact Ne.symm (by assumption)) (by assumption)))) | exact (zu_o (by first | assumption | exact Ne.symm (by assumption)) (zu_o (by first | assumption | exact Ne.symm (by assumption)) (zu_o (by first | assumption | exact Ne.symm (by assumption)) (zu_o (by first | assumption | exact Ne.symm (by assumption)) (zu_s _ _ _))))) | exact (zu_o (by first | assumption | exact Ne.symm (by assumption)) (zu_o (by first | assumption | exact Ne.symm (by assumption)) (zu_o (by first | assumption | exact Ne.symm (by assumption)) (zu_o (by first | assumption | exact Ne.symm (by assumption)) (by assumption))))) | exact AL.at (by assumption) | exact EL.at (by assumption) | exact LL.at (by assumption)) (by omega) ?_
  refine z_callb (z_runS hX (x_areNodes _ _ (zu_s _ _ _) (by decide) (zf_iR (zf_iR (fun _ => by unfold iR; omega) hf) ht)) (va_cwS 1 hX.ts (lw_S q193 q194 q65 q195) rfl rfl rfl (by decide +kernel) (zroom (by first | decide | omega) (by decide))) dX0_length_11 rfl rfl rfl (by first | exact Nat.le_of_ble_eq_true rfl | simp [va_rf_c, Value.category]) (zhf (by omega) (by omega))) (fun r_11 μ_11 h_11 => ?_)
  obtain ⟨rfl, rfl⟩ := h_11; rw [nd2]
  have hk1 : zKp μ (zu (zu (zu μ q_1 (zai E 2 (fun _ => 0))) q_1 (zai E 2 (zf (fun _ => 0) 0 f))) q_1 (zai E 2 (zf (zf (fun _ => 0) 0 f) 1 t))) := (((zKp.rf μ).nu f_1 _).nu f_1 _).nu f_1 _
  generalize zu (zu (zu μ q_1 (zai E 2 (fun _ => 0))) q_1 (zai E 2 (zf (fun _ => 0) 0 f))) q_1 (zai E 2 (zf (zf (fun _ => 0) 0 f) 1 t)) = μ1 at hk1
  have hx1 := hk1 _ _ hx
  have bad : ¬ ((0 ≤ f ∧ f ≤ 7) ∧ (0 ≤ t ∧ t ≤ 7) ∧ (-999 ≤ p ∧ p ≤ 999) ∧ 1 ≤ q ∧ q ≤ 99) → ∀ y5 y6, zW X (zR 6 10 50) E (μ1) 1 2 Q 44 [some (.ref x), some (.int (zI f)), some (.int (zI t)), some (.int (zI p)), some (.int (zI q)), y5, y6] [] := fun hb y5 y6 => by
    rw [if_neg hb] at hT
    refine z_ldc2_w hX (z := -1000002) q1099 (by decide) dX0_length_44 ?_
    (try rw [← hQ])
    refine z_lreturn hX dX0_length_47 (by omega) (by omega) ?_
    exact ⟨hT.symm, hk1⟩
  refine z_if_eq_b hX dX0_length_14 (tgt := 44) rfl (fun h_14 => ?_) (fun h_14 => ?_)
  · have hn : ¬ ((0 ≤ f ∧ f ≤ 7) ∧ 0 ≤ t ∧ t ≤ 7) := fun z => by rw [decide_eq_true z.1, decide_eq_true z.2] at h_14; cases h_14
    exact bad (fun z => hn ⟨z.1, z.2.1⟩) _ _
  · have hn : (0 ≤ f ∧ f ≤ 7) ∧ 0 ≤ t ∧ t ≤ 7 := by
      rw [Bool.and_eq_true] at h_14
      exact ⟨of_decide_eq_true h_14.1, of_decide_eq_true h_14.2⟩
    refine z_iload_n hX rfl dX0_length_17 ?_
    refine z_i2l hX (by omega) dX0_length_18 ?_
    refine z_ldc2_w hX (z := -999) q1127 (by decide) dX0_length_19 ?_
    refine z_ldc2_w hX (z := 999) q1128 (by decide) dX0_length_22 ?_
    refine z_callb (z_runS hX (x_isIn _ _ _ (by unfold lR; omega) (by unfold lR; omega) (by unfold lR; omega)) (va_cwS 3 hX.ts (lw_S q197 q198 q65 q199) rfl rfl rfl (by decide +kernel) (zroom (by first | decide | omega) (by decide))) dX0_length_25 rfl rfl rfl (by first | exact Nat.le_of_ble_eq_true rfl | simp [va_rf_c, Value.category]) (zhf (by omega) (by omega))) (fun r_25 μ_25 h_25 => ?_)
    obtain ⟨rfl, rfl⟩ := h_25
    refine z_if_eq_b hX dX0_length_28 (tgt := 44) rfl (fun h_28 => ?_) (fun h_28 => ?_)
    · exact bad (fun z => of_decide_eq_false h_28 z.2.2.1) _ _
    · have hn2 : -999 ≤ p ∧ p ≤ 999 := of_decide_eq_true h_28
      refine z_iload hX rfl dX0_length_31 ?_
      refine z_i2l hX (by omega) dX0_length_33 ?_
      refine z_lconst hX (z := 1) (by decide) dX0_length_34 ?_
      refine z_ldc2_w hX (z := 99) q1122 (by decide) dX0_length_35 ?_
      refine z_callb (z_runS hX (x_isIn _ _ _ (by unfold lR; omega) (by unfold lR; omega) (by unfold lR; omega)) (va_cwS 3 hX.ts (lw_S q197 q198 q65 q199) rfl rfl rfl (by decide +kernel) (zroom (by first | decide | omega) (by decide))) dX0_length_38 rfl rfl rfl (by first | exact Nat.le_of_ble_eq_true rfl | simp [va_rf_c, Value.category]) (zhf (by omega) (by omega))) (fun r_38 μ_38 h_38 => ?_)
      obtain ⟨rfl, rfl⟩ := h_38
      refine z_if_ne_b hX dX0_length_41 (tgt := 48) rfl (fun h_41 => ?_) (fun h_41 => ?_)
      · have hn3 : 1 ≤ q ∧ q ≤ 99 := of_decide_eq_true h_41
        rw [if_pos ⟨hn.1, hn.2, hn2, hn3⟩] at hT
        unfold xlnV at hT
        refine z_new hX (C := RX14) (T := TX14) (N := 5) (ci := 12) rfl in_X14 tyX14 tyX14_ok q1129 q1130 q93 dX0_length_48 (fs := [.int (zI 0), .int (zI 0), .int (zI 0), .null, .null]) (by decide) (by omega) (by omega) (fun q_48 f_48 => ?_)
        have kn := hk1.tr (zKp.new f_48 (zob 12 [.int (zI 0), .int (zI 0), .int (zI 0), .null, .null]))
        refine z_dup hX (by first | rfl | exact va_rf_c _) dX0_length_51 ?_
        refine z_aload_n hX rfl (by first | rfl | exact va_rf_r _) dX0_length_52 ?_
        refine z_iload_n hX rfl dX0_length_53 ?_
        refine z_iload_n hX rfl dX0_length_54 ?_
        refine z_callv (z_runI hX (x_paI _ _ (hG.kp kn) hg (zu_s _ _ _) hn.1 hn.2) (cwI 3 hX.ts (lw_meth q1133) rfl rfl rfl (hX.t q93) (hX.t q1131) (hX.t q1132) rfl (by decide +kernel) (zroom (by first | decide | omega) (by decide))) dX0_length_55 rfl rfl rfl (by first | exact Nat.le_of_ble_eq_true rfl | simp [va_rf_c, Value.category]) (zhf (by omega) (by omega))) (fun μ_55 h_55 => ?_)
        obtain ⟨li, hli, hPA, hB, hk2⟩ := h_55
        refine z_astore hX (lv' := [_, _, _, _, _, _, _]) (by first | rfl | exact va_rf_r _) (Nat.le_of_ble_eq_true rfl) (by first | exact zpre_0 | exact zpre_n rfl | exact zpre_1 rfl rfl | exact zpre_1 rfl (va_rf_c _)) rfl dX0_length_58 ?_
        have hk3 := hk1.tr (hk2.kp1 f_48)
        have hw := hPA.1
        refine z_aload hX rfl (by first | rfl | exact va_rf_r _) dX0_length_60 ?_
        refine z_callb (z_runV hX (x_exist _ _ hPA hB hn.2) (cwV 0 hX.ts (lw_V q1160 q1161 q1162 q93 q1163) rfl rfl rfl (by decide +kernel) (zroom (by first | decide | omega) (by decide))) dX0_length_62 (by first | assumption | exact zu_s _ _ _ | exact zu_o (by assumption) (by assumption) | exact zu_o (by assumption) (zu_o (by assumption) (by assumption)) | exact (zu_o (by first | assumption | exact Ne.symm (by assumption)) (zu_s _ _ _)) | exact (zu_o (by first | assumption | exact Ne.symm (by assumption)) (by assumption)) | exact (zu_o (by first | assumption | exact Ne.symm (by assumption)) (zu_o (by first | assumption | exact Ne.symm (by assumption)) (zu_s _ _ _))) | exact (zu_o (by first | assumption | exact Ne.symm (by assumption)) (zu_o (by first | assumption | exact Ne.symm (by assumption)) (by assumption))) | exact (zu_o (by first | assumption | exact Ne.symm (by assumption)) (zu_o (by first | assumption | exact Ne.symm (by assumption)) (zu_o (by first | assumption | exact Ne.symm (by assumption)) (zu_s _ _ _)))) | exact (zu_o (by first | assumption | exact Ne.symm (by assumption)) (zu_o (by first | assumption | exact Ne.symm (by assumption)) (zu_o (by first | assumption | exact Ne.symm (by assumption)) (by assumption)))) | exact (zu_o (by first | assumption | exact Ne.symm (by assumption)) (zu_o (by first | assumption | exact Ne.symm (by assumption)) (zu_o (by first | assumption | exact Ne.symm (by assumption)) (zu_o (by first | assumption | exact Ne.symm (by assumption)) (zu_s _ _ _))))) | exact (zu_o (by first | assumption | exact Ne.symm (by assumption)) (zu_o (by first | assumption | exact Ne.symm (by assumption)) (zu_o (by first | assumption | exact Ne.symm (by assumption)) (zu_o (by first | assumption | exact Ne.symm (by assumption)) (by assumption))))) | exact AL.at (by assumption) | exact EL.at (by assumption) | exact LL.at (by assumption)) (ci := 12) rfl rfl rfl rfl (by first | exact Nat.le_of_ble_eq_true rfl | simp [va_rf_c, Value.category]) (zhf (by omega) (by omega))) (fun r_62 μ_62 h_62 => ?_)
        obtain ⟨rfl, rfl⟩ := h_62
        refine z_if_ne_b hX dX0_length_65 (tgt := 72) rfl (fun h_65 => ?_) (fun h_65 => ?_)
        · rw [if_neg (by rw [h_65]; decide)] at hT
          refine z_new hX (C := RX5) (T := TX5) (N := 2) (ci := 5) rfl in_X5 tyX5 tyX5_ok q673 q674 q84 dX0_length_72 (fs := [.long (zJ 0), .long (zJ 0)]) (by decide) (by omega) (by omega) (fun q_72 f_72 => ?_)
          have kf := zKp.new f_72 (zfr 0 0)
          have hPA2 := hPA.mono kf
          refine z_dup hX (by first | rfl | exact va_rf_c _) dX0_length_75 ?_
          refine z_iload_n hX rfl dX0_length_76 ?_
          refine z_i2l hX (by omega) dX0_length_77 ?_
          refine z_iload hX rfl dX0_length_78 ?_
          refine z_i2l hX (by omega) dX0_length_80 ?_
          refine z_callv (z_runI hX (x_frI (n := p) (d := q) _ _ (zu_s _ _ _) (by unfold lB; omega) (by unfold lB; omega) (by omega)) (cwI 2 hX.ts (lw_meth q677) rfl rfl rfl (hX.t q84) (hX.t q675) (hX.t q676) rfl (by decide +kernel) (zroom (by first | decide | omega) (by decide))) dX0_length_81 rfl rfl rfl (by first | exact Nat.le_of_ble_eq_true rfl | simp [va_rf_c, Value.category]) (zhf (by omega) (by omega))) (fun μ_81 h_81 => ?_)
          obtain rfl := h_81; rw [zu_zu]
          have kf := zKp.new f_72 (zfr (frN p q) (frD p q))
          have hPA2 := hPA.mono kf
          have hw2 := hPA2.1
          have hfr := zu_s μ_55 q_72 (zfr (frN p q) (frD p q))
          have d1 := frD_pos (n := p) (d := q) (by omega)
          have d2 := frD_le (n := p) (d := q) (by omega)
          have d3 := frN_le (n := p) (d := q) (M := 999) (by omega) (by omega) (by omega)
          have hcb := lcF_b (n := frN p q) (d := frD p q) hg d3 (by omega)
          have hk4 := hk3.tr kf
          generalize frN p q = n at *
          generalize frD p q = d at *
          generalize zu μ_55 q_72 (zfr n d) = μ4 at *
          refine z_astore hX (lv' := [_, _, _, _, _, _, _]) (by first | rfl | exact va_rf_r _) (Nat.le_of_ble_eq_true rfl) (by first | exact zpre_0 | exact zpre_n rfl | exact zpre_1 rfl rfl | exact zpre_1 rfl (va_rf_c _)) rfl dX0_length_84 ?_
          refine z_aload hX rfl (by first | rfl | exact va_rf_r _) dX0_length_86 ?_
          refine z_aload hX rfl (by first | rfl | exact va_rf_r _) dX0_length_88 ?_
          refine z_callb (z_runV hX (x_isUnb _ _ hg hPA2 hB hfr hcb) (cwV 1 hX.ts (lw_V q1164 q1165 q1166 q93 q1167) rfl rfl rfl (by decide +kernel) (zroom (by first | decide | omega) (by decide))) dX0_length_90 (by first | assumption | exact zu_s _ _ _ | exact zu_o (by assumption) (by assumption) | exact zu_o (by assumption) (zu_o (by assumption) (by assumption)) | exact (zu_o (by first | assumption | exact Ne.symm (by assumption)) (zu_s _ _ _)) | exact (zu_o (by first | assumption | exact Ne.symm (by assumption)) (by assumption)) | exact (zu_o (by first | assumption | exact Ne.symm (by assumption)) (zu_o (by first | assumption | exact Ne.symm (by assumption)) (zu_s _ _ _))) | exact (zu_o (by first | assumption | exact Ne.symm (by assumption)) (zu_o (by first | assumption | exact Ne.symm (by assumption)) (by assumption))) | exact (zu_o (by first | assumption | exact Ne.symm (by assumption)) (zu_o (by first | assumption | exact Ne.symm (by assumption)) (zu_o (by first | assumption | exact Ne.symm (by assumption)) (zu_s _ _ _)))) | exact (zu_o (by first | assumption | exact Ne.symm (by assumption)) (zu_o (by first | assumption | exact Ne.symm (by assumption)) (zu_o (by first | assumption | exact Ne.symm (by assumption)) (by assumption)))) | exact (zu_o (by first | assumption | exact Ne.symm (by assumption)) (zu_o (by first | assumption | exact Ne.symm (by assumption)) (zu_o (by first | assumption | exact Ne.symm (by assumption)) (zu_o (by first | assumption | exact Ne.symm (by assumption)) (zu_s _ _ _))))) | exact (zu_o (by first | assumption | exact Ne.symm (by assumption)) (zu_o (by first | assumption | exact Ne.symm (by assumption)) (zu_o (by first | assumption | exact Ne.symm (by assumption)) (zu_o (by first | assumption | exact Ne.symm (by assumption)) (by assumption))))) | exact AL.at (by assumption) | exact EL.at (by assumption) | exact LL.at (by assumption)) (ci := 12) rfl rfl rfl rfl (by first | exact Nat.le_of_ble_eq_true rfl | simp [va_rf_c, Value.category]) (zhf (by omega) (by omega))) (fun r_90 μ_90 h_90 => ?_)
          obtain ⟨hr, hk5⟩ := h_90
          refine z_if_eq_b hX dX0_length_93 (tgt := 100) rfl (fun h_93 => ?_) (fun h_93 => ?_)
          · have hr2 : r_90 = false := h_93
            rw [hr2] at hr; simp only [Bool.not_true, Bool.not_false] at hr
            rw [if_neg (by rw [hr]; decide)] at hT
            have hPA5 := hPA2.mono hk5
            have hw5 := hPA5.1
            have hfr5 := hk5 _ _ hfr
            have hd0 : q.tdiv d = q / d := Int.tdiv_eq_ediv_of_nonneg (by omega)
            refine z_aload hX rfl (by first | rfl | exact va_rf_r _) dX0_length_100 ?_
            refine z_aload hX rfl (by first | rfl | exact va_rf_r _) dX0_length_102 ?_
            refine z_calll (z_runV hX (x_paLen _ _ hg hPA5 hn.1 hn.2 hfr5 hcb) (cwV 1 hX.ts (lw_V q1169 q1170 q1171 q93 q1172) rfl rfl rfl (by decide +kernel) (zroom (by first | decide | omega) (by decide))) dX0_length_104 (by first | assumption | exact zu_s _ _ _ | exact zu_o (by assumption) (by assumption) | exact zu_o (by assumption) (zu_o (by assumption) (by assumption)) | exact (zu_o (by first | assumption | exact Ne.symm (by assumption)) (zu_s _ _ _)) | exact (zu_o (by first | assumption | exact Ne.symm (by assumption)) (by assumption)) | exact (zu_o (by first | assumption | exact Ne.symm (by assumption)) (zu_o (by first | assumption | exact Ne.symm (by assumption)) (zu_s _ _ _))) | exact (zu_o (by first | assumption | exact Ne.symm (by assumption)) (zu_o (by first | assumption | exact Ne.symm (by assumption)) (by assumption))) | exact (zu_o (by first | assumption | exact Ne.symm (by assumption)) (zu_o (by first | assumption | exact Ne.symm (by assumption)) (zu_o (by first | assumption | exact Ne.symm (by assumption)) (zu_s _ _ _)))) | exact (zu_o (by first | assumption | exact Ne.symm (by assumption)) (zu_o (by first | assumption | exact Ne.symm (by assumption)) (zu_o (by first | assumption | exact Ne.symm (by assumption)) (by assumption)))) | exact (zu_o (by first | assumption | exact Ne.symm (by assumption)) (zu_o (by first | assumption | exact Ne.symm (by assumption)) (zu_o (by first | assumption | exact Ne.symm (by assumption)) (zu_o (by first | assumption | exact Ne.symm (by assumption)) (zu_s _ _ _))))) | exact (zu_o (by first | assumption | exact Ne.symm (by assumption)) (zu_o (by first | assumption | exact Ne.symm (by assumption)) (zu_o (by first | assumption | exact Ne.symm (by assumption)) (zu_o (by first | assumption | exact Ne.symm (by assumption)) (by assumption))))) | exact AL.at (by assumption) | exact EL.at (by assumption) | exact LL.at (by assumption)) (ci := 12) rfl rfl rfl rfl (by first | exact Nat.le_of_ble_eq_true rfl | simp [va_rf_c, Value.category]) (zhf (by omega) (by omega))) (fun r_104 μ_104 h_104 => ?_)
            obtain ⟨rfl, hk6⟩ := h_104; have hfr6 := hk6 _ _ hfr5
            refine z_iload hX rfl dX0_length_107 ?_
            refine z_i2l hX (by omega) dX0_length_109 ?_
            refine z_aload hX rfl (by first | rfl | exact va_rf_r _) dX0_length_110 ?_
            refine z_getN hX (C := RX5) (T := TX5) (N := 2) (ci := 5) rfl in_X5 1 (by decide) q698 (Or.inl rfl) dX0_length_112 (by first | assumption | exact zu_s _ _ _ | exact zu_o (by assumption) (by assumption) | exact zu_o (by assumption) (zu_o (by assumption) (by assumption)) | exact (zu_o (by first | assumption | exact Ne.symm (by assumption)) (zu_s _ _ _)) | exact (zu_o (by first | assumption | exact Ne.symm (by assumption)) (by assumption)) | exact (zu_o (by first | assumption | exact Ne.symm (by assumption)) (zu_o (by first | assumption | exact Ne.symm (by assumption)) (zu_s _ _ _))) | exact (zu_o (by first | assumption | exact Ne.symm (by assumption)) (zu_o (by first | assumption | exact Ne.symm (by assumption)) (by assumption))) | exact (zu_o (by first | assumption | exact Ne.symm (by assumption)) (zu_o (by first | assumption | exact Ne.symm (by assumption)) (zu_o (by first | assumption | exact Ne.symm (by assumption)) (zu_s _ _ _)))) | exact (zu_o (by first | assumption | exact Ne.symm (by assumption)) (zu_o (by first | assumption | exact Ne.symm (by assumption)) (zu_o (by first | assumption | exact Ne.symm (by assumption)) (by assumption)))) | exact (zu_o (by first | assumption | exact Ne.symm (by assumption)) (zu_o (by first | assumption | exact Ne.symm (by assumption)) (zu_o (by first | assumption | exact Ne.symm (by assumption)) (zu_o (by first | assumption | exact Ne.symm (by assumption)) (zu_s _ _ _))))) | exact (zu_o (by first | assumption | exact Ne.symm (by assumption)) (zu_o (by first | assumption | exact Ne.symm (by assumption)) (zu_o (by first | assumption | exact Ne.symm (by assumption)) (zu_o (by first | assumption | exact Ne.symm (by assumption)) (by assumption))))) | exact AL.at (by assumption) | exact EL.at (by assumption) | exact LL.at (by assumption)) rfl ?_
            refine z_ldivt hX (by omega) (by omega) (by omega) dX0_length_115 ?_; rw [hd0]
            refine z_lmul hX dX0_length_116 ?_
            (try rw [← hQ])
            refine z_lreturn hX dX0_length_117 (by omega) (by omega) ?_
            rw [hT]
            exact ⟨rfl, hk4.tr (hk5.tr hk6)⟩
          · have hr2 : r_90 = true := h_93
            rw [hr2] at hr; simp only [Bool.not_true, Bool.not_false] at hr
            rw [if_pos hr] at hT
            refine z_ldc2_w hX (z := -1000005) q1168 (by decide) dX0_length_96 ?_
            (try rw [← hQ])
            refine z_lreturn hX dX0_length_99 (by omega) (by omega) ?_
            exact ⟨hT.symm, hk4.tr hk5⟩
        · rw [if_pos h_65] at hT
          refine z_ldc2_w hX (z := -1000001) q1105 (by decide) dX0_length_68 ?_
          (try rw [← hQ])
          refine z_lreturn hX dX0_length_71 (by omega) (by omega) ?_
          exact ⟨hT.symm, hk3⟩
      · exact bad (fun z => of_decide_eq_false h_41 z.2.2.2) _ _
