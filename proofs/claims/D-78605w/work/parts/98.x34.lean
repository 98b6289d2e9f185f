/-! X SIDE 34: pieces, piece -/
set_option maxRecDepth 100000
abbrev pcOK (f t lo hi : Int) : Prop := (0 ≤ f ∧ f ≤ 7) ∧ (0 ≤ t ∧ t ≤ 7) ∧ (-50 ≤ lo ∧ lo ≤ 49) ∧ lo + 1 ≤ hi ∧ hi ≤ 50
/-- what pieces answers without a list -/
def xpcC (a : Int → Int) (f t lo hi : Int) : Int := if ¬ pcOK f t lo hi then gBAD else if (xBt a f t).testBit t.toNat = false then -1000001 else if (rxM a (lcF a lo 1) (xBt a f t) 9 (fun _ => 0)).2 = false ∨ (rxM a (lcF a hi 1) (xBt a f t) 9 (fun _ => 0)).2 = false then -1000005 else 0
/-- the list that pieces lays -/
def xpcL (a : Int → Int) (f t lo hi : Int) (Lp : List pcT) : Prop := ∃ p q L N, lsF a (xBt a f t) lo 1 false f t = some p ∧ lsF a (xBt a f t) hi 1 true f t = some q ∧ apT a (xBt a f t) f t 128 N p q L ∧ N ≤ 256 ∧ L.length ≤ 127 ∧ Lp = (p, lo, 1) :: L
/-- the first piece added -/
theorem x_addP1 (l : Launch) (E : zE) {μ : zM} {L : Nat} (h : AL E μ L (zs E 1) 0 []) {v z b : Nat} (hv : μ v = some (zob 14 [.ref z, .ref b])) : Met l yJ2_add (ws_ yJ2_add cJ2_add 2 (some .boolean)) (zR 6 1 10) (va_Pc [.ref L, .ref v] (zPre E μ)) (zQb E (fun r μ' => true = r ∧ adP E μ L (zs E 1) [] v 0 10 μ')) 1 10 (zA E) := by
  have hvL : v ≠ L := by
    obtain ⟨e, e1, e2⟩ := h.k17
    exact zkne hv e1 (by rw [e2]; show (14 : Nat) ≠ 17; decide)
  exact x_add l E h (c' := 10) (mc := 1) (ms := 10) (ci := 14) (C := RX16) (T := TX16) (N := 2) rfl q1811 hv hvL (fun μ1 hA hk hf => ⟨by decide, x_growD l E hA⟩)
/-- a new list's first element -/
theorem adP.one {E : zE} {μ μ' : zM} {L v : Nat} (h : adP E μ L (zs E 1) [] v 0 10 μ') : ∃ b, μ b = none ∧ AL E μ' L b 10 [v] ∧ ∀ q, q ≠ L → q ≠ b → μ' q = μ q := by
  obtain ⟨b, c2, hb, hc2, hA, hf⟩ := h
  have h1 : 1 ≤ c2 := by
    obtain ⟨m, g, -, -, h3, -⟩ := hA
    exact h3
  rcases hb with ⟨-, hb⟩ | hb
  · omega
  · rcases hc2 with q | q
    · omega
    · subst q
      exact ⟨b, hb, hA, hf⟩
theorem x_pieces (l : Launch) (E : zE) {μ : zM} {x L0 h mk tx : Nat} {tl : Int} {fo pc : Option Nat} {hs : Int} (hx : μ x = some (zx0 L0 h mk tx tl fo pc hs)) (hO : zO E μ) {a : Int → Int} (hG : xG E μ x a) (hg : gV a) {f t lo hi : Int} (hf : iR f) (ht : iR t) (hlo : iR lo) (hhi : iR hi) {Lp : List pcT} (hL : xpcC a f t lo hi = 0 → xpcL a f t lo hi Lp) : Met l yX0_pieces (ws_ yX0_pieces cX0_pieces 10 (some .int)) (zR 136 40000 160000) (va_Pc [.ref x, .int (zI f), .int (zI t), .int (zI lo), .int (zI hi)] (zPre E μ)) (zQi E (fun r μ' => if xpcC a f t lo hi = 0 then (Lp.length : Int) = r ∧ zKx [x] μ μ' ∧ ∃ al arr c rs, μ' x = some (zx0 L0 h mk tx tl fo (some al) hs) ∧ μ al = none ∧ μ arr = none ∧ AL E μ' al arr c rs ∧ PL μ' rs Lp else xpcC a f t lo hi = r ∧ zKp μ μ')) 40000 160000 (zA E) := by
  unfold iR at hf ht hlo hhi
  generalize hC : xpcC a f t lo hi = C at hL
  unfold xpcC at hC
  refine zmet (cc := cX0_pieces) [_, _, _, _, _, _, _, _, _, _] (by decide) (Nat.le_of_ble_eq_true rfl) rfl rfl ?_
  intro X hl hX hinit; subst hl
  have hX : zOK X _ cX0_pieces RX0 (some .int) 10 := hX
  generalize hQ : MQ _ _ _ _ _ _ _ = Q
  refine z_iconst hX dX0_pieces_0 ?_
  refine z_newI hX 2 q187 dX0_pieces_1 rfl (by decide) (by omega) (by omega) (fun q_1 f_1 => ?_)
  refine z_dup hX (by first | rfl | exact va_rf_c _) dX0_pieces_3 ?_
  refine z_iconst hX dX0_pieces_4 ?_
  refine z_iload_n hX rfl dX0_pieces_5 ?_
  refine z_iastore hX dX0_pieces_6 (by first | assumption | exact zu_s _ _ _ | exact zu_o (by assumption) (by assumption) | exact zu_o (by assumption) (zu_o (by assumption) (by assumption)) | exact (zu_o (by first | assumption | exact Ne.symm (by assumption)) (zu_s _ _ _)) | exact (zu_o (by first | assumption | exact Ne.symm (by assumption)) (by assumption)) | exact (zu_o (by first | assumption | exact Ne.symm (by assumption)) (zu_o (by first | assumption | exact Ne.symm (by assumption)) (zu_s _ _ _))) | exact (zu_o (by first | assumption | exact Ne.symm (by assumption)) (zu_o (by first | assumption | exact Ne.symm (by assumption)) (by assumption))) | exact (zu_o (by first | assumption | exact Ne.symm (by assumption)) (zu_o (by first | assumption | exact Ne.symm (by assumption)) (zu_o (by first | assumption | exact Ne.symm (by assumption)) (zu_s _ _ _)))) | exact (zu_o (by first | assumption | exact Ne.symm (by assumption)) (zu_o (by first | assumption | exact Ne.symm (by assumption)) (zu_o (by first | assumption | exact Ne.symm (by assumption)) (by assumption)))) | exact (zu_o (by first | assumption | exact Ne.symm (by assumption)) (zu_o (by first | assumption | exact Ne.symm (by assumption)) (zu_o (by first | assumption | exact Ne.symm (by assumption)) (zu_o (by first | assumption | exact Ne.symm (by assumption)) (zu_s _ _ _))))) | exact (zu_o (by first | assumption | exact Ne.symm (by assumption)) (zu_o (by first | assumption | exact Ne.symm (by assumption)) (zu_o (by first | assumption | exact Ne.symm (by assumption)) (zu_o (by first | assumption | exact Ne.symm (by assumption)) (by assumption))))) | exact AL.at (by assumption) | exact EL.at (by assumption) | exact LL.at (by assumption)) (by omega) ?_
  refine z_dup hX (by first | rfl | exact va_rf_c _) dX0_pieces_7 ?_
  refine z_iconst hX dX0_pieces_8 ?_
  refine z_iload_n hX rfl dX0_pieces_9 ?_
  refine z_iastore hX dX0_pieces_10 (by first | assumption | exact zu_s _ _ _ | exact zu_o (by assumption) (by assumption) | exact zu_o (by assumption) (zu_o (by assumption) (by assumption)) | exact (zu_o (by first | assumption | exact Ne.symm (by assumption)) (zu_s _ _ _)) | exact (zu_o (by first | assumption | exact Ne.symm (by assumption)) (by assumption)) | exact (zu_o (by first | assumption | exact Ne.symm (by assumption)) (zu_o (by first | assumption | exact Ne.symm (by assumption)) (zu_s _ _ _))) | exact (zu_o (by first | assumption | exact Ne.symm (by assumption)) (zu_o (by first | assumption | exact Ne.symm (by assumption)) (by assumption))) | exact (zu_o (by first | assumption | exact Ne.symm (by assumption)) (zu_o (by first | assumption | exact Ne.symm (by assumption)) (zu_o (by first | assumption | exact Ne.symm (by assumption)) (zu_s _ _ _)))) | exact (zu_o (by first | assumption | exact Ne.symm (by assumption)) (zu_o (by first | assumption | exact Ne.symm (by assumption)) (zu_o (by first | assumption | exact Ne.symm (by assumption)) (by assumption)))) | exact (zu_o (by first | assumption | exact Ne.symm (by assumption)) (zu_o (by first | assumption | exact Ne.symm (by assumption)) (zu_o (by first | assumption | exact Ne.symm (by assumption)) (zu_o (by first | assumption | exact Ne.symm (by assumption)) (zu_s _ _ _))))) | exact (zu_o (by first | assumption | exact Ne.symm (by assumption)) (zu_o (by first | assumption | exact Ne.symm (by assumption)) (zu_o (by first | assumption | exact Ne.symm (by assumption)) (zu_o (by first | assumption | exact Ne.symm (by assumption)) (by assumption))))) | exact AL.at (by assumption) | exact EL.at (by assumption) | exact LL.at (by assumption)) (by omega) ?_
  refine z_callb (z_runS hX (x_areNodes _ _ (zu_s _ _ _) (by decide) (zf_iR (zf_iR (fun _ => by unfold iR; omega) hf) ht)) (va_cwS 1 hX.ts (lw_S q193 q194 q65 q195) rfl rfl rfl (by decide +kernel) (zroom (by first | decide | omega) (by decide))) dX0_pieces_11 rfl rfl rfl (by first | exact Nat.le_of_ble_eq_true rfl | simp [va_rf_c, Value.category]) (zhf (by omega) (by omega))) (fun r_11 μ_11 h_11 => ?_)
  obtain ⟨rfl, rfl⟩ := h_11; rw [nd2]
  have hk1 : zKp μ (zu (zu (zu μ q_1 (zai E 2 (fun _ => 0))) q_1 (zai E 2 (zf (fun _ => 0) 0 f))) q_1 (zai E 2 (zf (zf (fun _ => 0) 0 f) 1 t))) := (((zKp.rf μ).nu f_1 _).nu f_1 _).nu f_1 _
  generalize zu (zu (zu μ q_1 (zai E 2 (fun _ => 0))) q_1 (zai E 2 (zf (fun _ => 0) 0 f))) q_1 (zai E 2 (zf (zf (fun _ => 0) 0 f) 1 t)) = μ1 at hk1
  have hx1 := hk1 _ _ hx
  have bad : ¬ pcOK f t lo hi → ∀ y5 y6 y7 y8 y9, zW X (zR 136 40000 160000) E (μ1) 1 2 Q 47 [some (.ref x), some (.int (zI f)), some (.int (zI t)), some (.int (zI lo)), some (.int (zI hi)), y5, y6, y7, y8, y9] [] := fun hb y5 y6 y7 y8 y9 => by
    rw [if_pos hb] at hC
    subst hC
    refine z_ldc hX (z := -1000002) q208 (by decide) dX0_pieces_47 ?_
    (try rw [← hQ])
    refine z_ireturn hX dX0_pieces_49 (by omega) (by omega) ?_
    rw [if_neg (by decide)]
    exact ⟨rfl, hk1⟩
  refine z_if_eq_b hX dX0_pieces_14 (tgt := 47) rfl (fun h_14 => ?_) (fun h_14 => ?_)
  · have hn : ¬ ((0 ≤ f ∧ f ≤ 7) ∧ 0 ≤ t ∧ t ≤ 7) := fun z => by rw [decide_eq_true z.1, decide_eq_true z.2] at h_14; cases h_14
    exact bad (fun z => hn ⟨z.1, z.2.1⟩) _ _ _ _ _
  · have hn : (0 ≤ f ∧ f ≤ 7) ∧ 0 ≤ t ∧ t ≤ 7 := by
      rw [Bool.and_eq_true] at h_14
      exact ⟨of_decide_eq_true h_14.1, of_decide_eq_true h_14.2⟩
    refine z_iload_n hX rfl dX0_pieces_17 ?_
    refine z_i2l hX (by omega) dX0_pieces_18 ?_
    refine z_ldc2_w hX (z := -50) q1179 (by decide) dX0_pieces_19 ?_
    refine z_ldc2_w hX (z := 49) q1180 (by decide) dX0_pieces_22 ?_
    refine z_callb (z_runS hX (x_isIn _ _ _ (by unfold lR; omega) (by unfold lR; omega) (by unfold lR; omega)) (va_cwS 3 hX.ts (lw_S q197 q198 q65 q199) rfl rfl rfl (by decide +kernel) (zroom (by first | decide | omega) (by decide))) dX0_pieces_25 rfl rfl rfl (by first | exact Nat.le_of_ble_eq_true rfl | simp [va_rf_c, Value.category]) (zhf (by omega) (by omega))) (fun r_25 μ_25 h_25 => ?_)
    obtain ⟨rfl, rfl⟩ := h_25
    refine z_if_eq_b hX dX0_pieces_28 (tgt := 47) rfl (fun h_28 => ?_) (fun h_28 => ?_)
    · exact bad (fun z => of_decide_eq_false h_28 z.2.2.1) _ _ _ _ _
    · have hn2 : -50 ≤ lo ∧ lo ≤ 49 := of_decide_eq_true h_28
      refine z_iload hX rfl dX0_pieces_31 ?_
      refine z_i2l hX (by omega) dX0_pieces_33 ?_
      refine z_iload_n hX rfl dX0_pieces_34 ?_
      refine z_iconst hX dX0_pieces_35 ?_
      refine z_iadd hX dX0_pieces_36 ?_
      refine z_i2l hX (by omega) dX0_pieces_37 ?_
      refine z_ldc2_w hX (z := 50) q1181 (by decide) dX0_pieces_38 ?_
      refine z_callb (z_runS hX (x_isIn _ _ _ (by unfold lR; omega) (by unfold lR; omega) (by unfold lR; omega)) (va_cwS 3 hX.ts (lw_S q197 q198 q65 q199) rfl rfl rfl (by decide +kernel) (zroom (by first | decide | omega) (by decide))) dX0_pieces_41 rfl rfl rfl (by first | exact Nat.le_of_ble_eq_true rfl | simp [va_rf_c, Value.category]) (zhf (by omega) (by omega))) (fun r_41 μ_41 h_41 => ?_)
      obtain ⟨rfl, rfl⟩ := h_41
      refine z_if_ne_b hX dX0_pieces_44 (tgt := 50) rfl (fun h_44 => ?_) (fun h_44 => ?_)
      · have hn3 : lo + 1 ≤ hi ∧ hi ≤ 50 := of_decide_eq_true h_44
        rw [if_neg (fun z => z ⟨hn.1, hn.2, hn2, hn3⟩)] at hC
        refine z_new hX (C := RX14) (T := TX14) (N := 5) (ci := 12) rfl in_X14 tyX14 tyX14_ok q1129 q1130 q93 dX0_pieces_50 (fs := [.int (zI 0), .int (zI 0), .int (zI 0), .null, .null]) (by decide) (by omega) (by omega) (fun q_50 f_50 => ?_)
        have kn := hk1.tr (zKp.new f_50 (zob 12 [.int (zI 0), .int (zI 0), .int (zI 0), .null, .null]))
        refine z_dup hX (by first | rfl | exact va_rf_c _) dX0_pieces_53 ?_
        refine z_aload_n hX rfl (by first | rfl | exact va_rf_r _) dX0_pieces_54 ?_
        refine z_iload_n hX rfl dX0_pieces_55 ?_
        refine z_iload_n hX rfl dX0_pieces_56 ?_
        refine z_callv (z_runI hX (x_paI _ _ (hG.kp kn) hg (zu_s _ _ _) hn.1 hn.2) (cwI 3 hX.ts (lw_meth q1133) rfl rfl rfl (hX.t q93) (hX.t q1131) (hX.t q1132) rfl (by decide +kernel) (zroom (by first | decide | omega) (by decide))) dX0_pieces_57 rfl rfl rfl (by first | exact Nat.le_of_ble_eq_true rfl | simp [va_rf_c, Value.category]) (zhf (by omega) (by omega))) (fun μ_57 h_57 => ?_)
        obtain ⟨li, hli, hPA, hB, hk2⟩ := h_57
        refine z_astore hX (lv' := [_, _, _, _, _, _, _, _, _, _]) (by first | rfl | exact va_rf_r _) (Nat.le_of_ble_eq_true rfl) (by first | exact zpre_0 | exact zpre_n rfl | exact zpre_1 rfl rfl | exact zpre_1 rfl (va_rf_c _)) rfl dX0_pieces_60 ?_
        have hk3 := hk1.tr (hk2.kp1 f_50)
        have hli0 := kn.no hli
        have hw := hPA.1
        refine z_aload hX rfl (by first | rfl | exact va_rf_r _) dX0_pieces_62 ?_
        refine z_callb (z_runV hX (x_exist _ _ hPA hB hn.2) (cwV 0 hX.ts (lw_V q1160 q1161 q1162 q93 q1163) rfl rfl rfl (by decide +kernel) (zroom (by first | decide | omega) (by decide))) dX0_pieces_64 (by first | assumption | exact zu_s _ _ _ | exact zu_o (by assumption) (by assumption) | exact zu_o (by assumption) (zu_o (by assumption) (by assumption)) | exact (zu_o (by first | assumption | exact Ne.symm (by assumption)) (zu_s _ _ _)) | exact (zu_o (by first | assumption | exact Ne.symm (by assumption)) (by assumption)) | exact (zu_o (by first | assumption | exact Ne.symm (by assumption)) (zu_o (by first | assumption | exact Ne.symm (by assumption)) (zu_s _ _ _))) | exact (zu_o (by first | assumption | exact Ne.symm (by assumption)) (zu_o (by first | assumption | exact Ne.symm (by assumption)) (by assumption))) | exact (zu_o (by first | assumption | exact Ne.symm (by assumption)) (zu_o (by first | assumption | exact Ne.symm (by assumption)) (zu_o (by first | assumption | exact Ne.symm (by assumption)) (zu_s _ _ _)))) | exact (zu_o (by first | assumption | exact Ne.symm (by assumption)) (zu_o (by first | assumption | exact Ne.symm (by assumption)) (zu_o (by first | assumption | exact Ne.symm (by assumption)) (by assumption)))) | exact (zu_o (by first | assumption | exact Ne.symm (by assumption)) (zu_o (by first | assumption | exact Ne.symm (by assumption)) (zu_o (by first | assumption | exact Ne.symm (by assumption)) (zu_o (by first | assumption | exact Ne.symm (by assumption)) (zu_s _ _ _))))) | exact (zu_o (by first | assumption | exact Ne.symm (by assumption)) (zu_o (by first | assumption | exact Ne.symm (by assumption)) (zu_o (by first | assumption | exact Ne.symm (by assumption)) (zu_o (by first | assumption | exact Ne.symm (by assumption)) (by assumption))))) | exact AL.at (by assumption) | exact EL.at (by assumption) | exact LL.at (by assumption)) (ci := 12) rfl rfl rfl rfl (by first | exact Nat.le_of_ble_eq_true rfl | simp [va_rf_c, Value.category]) (zhf (by omega) (by omega))) (fun r_64 μ_64 h_64 => ?_)
        obtain ⟨rfl, rfl⟩ := h_64
        refine z_if_ne_b hX dX0_pieces_67 (tgt := 73) rfl (fun h_67 => ?_) (fun h_67 => ?_)
        · rw [if_neg (by rw [h_67]; decide)] at hC
          refine z_new hX (C := RX5) (T := TX5) (N := 2) (ci := 5) rfl in_X5 tyX5 tyX5_ok q673 q674 q84 dX0_pieces_73 (fs := [.long (zJ 0), .long (zJ 0)]) (by decide) (by omega) (by omega) (fun q_73 f_73 => ?_)
          have kf1 := zKp.new f_73 (zfr 0 0)
          refine z_dup hX (by first | rfl | exact va_rf_c _) dX0_pieces_76 ?_
          refine z_iload_n hX rfl dX0_pieces_77 ?_
          refine z_i2l hX (by omega) dX0_pieces_78 ?_
          refine z_callv (z_runI hX (x_frI1 _ _ (zu_s _ _ _) (n := lo) (by unfold lB; omega)) (cwI 1 hX.ts (lw_meth q880) rfl rfl rfl (hX.t q84) (hX.t q1182) (hX.t q879) rfl (by decide +kernel) (zroom (by first | decide | omega) (by decide))) dX0_pieces_79 rfl rfl rfl (by first | exact Nat.le_of_ble_eq_true rfl | simp [va_rf_c, Value.category]) (zhf (by omega) (by omega))) (fun μ_79 h_79 => ?_)
          obtain rfl := h_79; rw [zu_zu]
          refine z_astore hX (lv' := [_, _, _, _, _, _, _, _, _, _]) (by first | rfl | exact va_rf_r _) (Nat.le_of_ble_eq_true rfl) (by first | exact zpre_0 | exact zpre_n rfl | exact zpre_1 rfl rfl | exact zpre_1 rfl (va_rf_c _)) rfl dX0_pieces_82 ?_
          have kf1 := zKp.new f_73 (zfr lo 1)
          refine z_new hX (C := RX5) (T := TX5) (N := 2) (ci := 5) rfl in_X5 tyX5 tyX5_ok q673 q674 q84 dX0_pieces_84 (fs := [.long (zJ 0), .long (zJ 0)]) (by decide) (by omega) (by omega) (fun q_84 f_84 => ?_)
          have kf2 := zKp.new f_84 (zfr 0 0)
          refine z_dup hX (by first | rfl | exact va_rf_c _) dX0_pieces_87 ?_
          refine z_iload hX rfl dX0_pieces_88 ?_
          refine z_i2l hX (by omega) dX0_pieces_90 ?_
          refine z_callv (z_runI hX (x_frI1 _ _ (zu_s _ _ _) (n := hi) (by unfold lB; omega)) (cwI 1 hX.ts (lw_meth q880) rfl rfl rfl (hX.t q84) (hX.t q1182) (hX.t q879) rfl (by decide +kernel) (zroom (by first | decide | omega) (by decide))) dX0_pieces_91 rfl rfl rfl (by first | exact Nat.le_of_ble_eq_true rfl | simp [va_rf_c, Value.category]) (zhf (by omega) (by omega))) (fun μ_91 h_91 => ?_)
          obtain rfl := h_91; rw [zu_zu]
          refine z_astore hX (lv' := [_, _, _, _, _, _, _, _, _, _]) (by first | rfl | exact va_rf_r _) (Nat.le_of_ble_eq_true rfl) (by first | exact zpre_0 | exact zpre_n rfl | exact zpre_1 rfl rfl | exact zpre_1 rfl (va_rf_c _)) rfl dX0_pieces_94 ?_
          have kf2 := zKp.new f_84 (zfr hi 1)
          have hPA2 := (hPA.mono kf1).mono kf2
          have hw2 := hPA2.1
          have hA1 := kf2 _ _ (zu_s μ_57 q_73 (zfr lo 1))
          have hA2 := zu_s (zu μ_57 q_73 (zfr lo 1)) q_84 (zfr hi 1)
          have hk4 := hk3.tr (kf1.tr kf2)
          generalize zu (zu μ_57 q_73 (zfr lo 1)) q_84 (zfr hi 1) = μ4 at *
          have hcb1 := lcF_b (n := lo) (d := 1) hg (by omega) (by omega)
          have hcb2 := lcF_b (n := hi) (d := 1) hg (by omega) (by omega)
          have unb : (rxM a (lcF a lo 1) (xBt a f t) 9 (fun _ => 0)).2 = false ∨ (rxM a (lcF a hi 1) (xBt a f t) 9 (fun _ => 0)).2 = false → ∀ (μ5 : zM) (ce sl : Nat), zKp μ4 μ5 → ce ≤ 40000 → sl ≤ 160000 → ∀ y8 y9, zW X (zR 136 40000 160000) E (μ5) ce sl Q 116 [some (.ref x), some (.int (zI f)), some (.int (zI t)), some (.int (zI lo)), some (.int (zI hi)), some (.ref q_50), some (.ref q_73), some (.ref q_84), y8, y9] [] := fun hu μ5 ce sl hk5 hce hsl y8 y9 => by
            rw [if_pos hu] at hC
            subst hC
            refine z_ldc_w hX (z := -1000005) q1183 (by decide) dX0_pieces_116 ?_
            (try rw [← hQ])
            refine z_ireturn hX dX0_pieces_119 (by omega) (by omega) ?_
            rw [if_neg (by decide)]
            exact ⟨rfl, hk4.tr hk5⟩
          refine z_aload hX rfl (by first | rfl | exact va_rf_r _) dX0_pieces_96 ?_
          refine z_aload hX rfl (by first | rfl | exact va_rf_r _) dX0_pieces_98 ?_
          refine z_callb (z_runV hX (x_isUnb _ _ hg hPA2 hB hA1 hcb1) (cwV 1 hX.ts (lw_V q1164 q1165 q1166 q93 q1167) rfl rfl rfl (by decide +kernel) (zroom (by first | decide | omega) (by decide))) dX0_pieces_100 (by first | assumption | exact zu_s _ _ _ | exact zu_o (by assumption) (by assumption) | exact zu_o (by assumption) (zu_o (by assumption) (by assumption)) | exact (zu_o (by first | assumption | exact Ne.symm (by assumption)) (zu_s _ _ _)) | exact (zu_o (by first | assumption | exact Ne.symm (by assumption)) (by assumption)) | exact (zu_o (by first | assumption | exact Ne.symm (by assumption)) (zu_o (by first | assumption | exact Ne.symm (by assumption)) (zu_s _ _ _))) | exact (zu_o (by first | assumption | exact Ne.symm (by assumption)) (zu_o (by first | assumption | exact Ne.symm (by assumption)) (by assumption))) | exact (zu_o (by first | assumption | exact Ne.symm (by assumption)) (zu_o (by first | assumption | exact Ne.symm (by assumption)) (zu_o (by first | assumption | exact Ne.symm (by assumption)) (zu_s _ _ _)))) | exact (zu_o (by first | assumption | exact Ne.symm (by assumption)) (zu_o (by first | assumption | exact Ne.symm (by assumption)) (zu_o (by first | assumption | exact Ne.symm (by assumption)) (by assumption)))) | exact (zu_o (by first | assumption | exact Ne.symm (by assumption)) (zu_o (by first | assumption | exact Ne.symm (by assumption)) (zu_o (by first | assumption | exact Ne.symm (by assumption)) (zu_o (by first | assumption | exact Ne.symm (by assumption)) (zu_s _ _ _))))) | exact (zu_o (by first | assumption | exact Ne.symm (by assumption)) (zu_o (by first | assumption | exact Ne.symm (by assumption)) (zu_o (by first | assumption | exact Ne.symm (by assumption)) (zu_o (by first | assumption | exact Ne.symm (by assumption)) (by assumption))))) | exact AL.at (by assumption) | exact EL.at (by assumption) | exact LL.at (by assumption)) (ci := 12) rfl rfl rfl rfl (by first | exact Nat.le_of_ble_eq_true rfl | simp [va_rf_c, Value.category]) (zhf (by omega) (by omega))) (fun r_100 μ_100 h_100 => ?_)
          obtain ⟨hr, hk5⟩ := h_100
          refine z_if_ne_b hX dX0_pieces_103 (tgt := 116) rfl (fun h_103 => ?_) (fun h_103 => ?_)
          · have hr2 : r_100 = true := h_103
            rw [hr2] at hr; simp only [Bool.not_true, Bool.not_false] at hr
            exact unb (Or.inl hr) _ _ _ hk5 (by omega) (by omega) _ _
          · have hr2 : r_100 = false := h_103
            rw [hr2] at hr; simp only [Bool.not_true, Bool.not_false] at hr
            have hPA5 := hPA2.mono hk5
            have hw5 := hPA5.1
            have hA15 := hk5 _ _ hA1
            have hA25 := hk5 _ _ hA2
            refine z_aload hX rfl (by first | rfl | exact va_rf_r _) dX0_pieces_106 ?_
            refine z_aload hX rfl (by first | rfl | exact va_rf_r _) dX0_pieces_108 ?_
            refine z_callb (z_runV hX (x_isUnb _ _ hg hPA5 hB hA25 hcb2) (cwV 1 hX.ts (lw_V q1164 q1165 q1166 q93 q1167) rfl rfl rfl (by decide +kernel) (zroom (by first | decide | omega) (by decide))) dX0_pieces_110 (by first | assumption | exact zu_s _ _ _ | exact zu_o (by assumption) (by assumption) | exact zu_o (by assumption) (zu_o (by assumption) (by assumption)) | exact (zu_o (by first | assumption | exact Ne.symm (by assumption)) (zu_s _ _ _)) | exact (zu_o (by first | assumption | exact Ne.symm (by assumption)) (by assumption)) | exact (zu_o (by first | assumption | exact Ne.symm (by assumption)) (zu_o (by first | assumption | exact Ne.symm (by assumption)) (zu_s _ _ _))) | exact (zu_o (by first | assumption | exact Ne.symm (by assumption)) (zu_o (by first | assumption | exact Ne.symm (by assumption)) (by assumption))) | exact (zu_o (by first | assumption | exact Ne.symm (by assumption)) (zu_o (by first | assumption | exact Ne.symm (by assumption)) (zu_o (by first | assumption | exact Ne.symm (by assumption)) (zu_s _ _ _)))) | exact (zu_o (by first | assumption | exact Ne.symm (by assumption)) (zu_o (by first | assumption | exact Ne.symm (by assumption)) (zu_o (by first | assumption | exact Ne.symm (by assumption)) (by assumption)))) | exact (zu_o (by first | assumption | exact Ne.symm (by assumption)) (zu_o (by first | assumption | exact Ne.symm (by assumption)) (zu_o (by first | assumption | exact Ne.symm (by assumption)) (zu_o (by first | assumption | exact Ne.symm (by assumption)) (zu_s _ _ _))))) | exact (zu_o (by first | assumption | exact Ne.symm (by assumption)) (zu_o (by first | assumption | exact Ne.symm (by assumption)) (zu_o (by first | assumption | exact Ne.symm (by assumption)) (zu_o (by first | assumption | exact Ne.symm (by assumption)) (by assumption))))) | exact AL.at (by assumption) | exact EL.at (by assumption) | exact LL.at (by assumption)) (ci := 12) rfl rfl rfl rfl (by first | exact Nat.le_of_ble_eq_true rfl | simp [va_rf_c, Value.category]) (zhf (by omega) (by omega))) (fun r_110 μ_110 h_110 => ?_)
            obtain ⟨hr3, hk6⟩ := h_110
            refine z_if_eq_b hX dX0_pieces_113 (tgt := 120) rfl (fun h_113 => ?_) (fun h_113 => ?_)
            · have hr4 : r_110 = false := h_113
              rw [hr4] at hr3; simp only [Bool.not_true, Bool.not_false] at hr3
              rw [if_neg (by rw [hr, hr3]; decide)] at hC
              subst hC
              obtain ⟨p, q, L, N, e1, e2, hT, hN, hLl, rfl⟩ := hL rfl
              obtain ⟨go1, hO1⟩ := hO.2.2
              have hk7 := hk4.tr (hk5.tr hk6)
              have hPA6 := hPA5.mono hk6
              have hA16 := hk6 _ _ hA15
              have hA26 := hk6 _ _ hA25
              refine z_new hX (C := RJ2) (T := TJ2) (N := 3) (ci := 17) rfl in_J2 tyJ2 tyJ2_ok q107 q108 q68 dX0_pieces_120 (fs := [.int (zI 0), .null, .int (zI 0)]) (by decide) (by omega) (by omega) (fun q_120 f_120 => ?_)
              have ka := zKp.new f_120 (zob 17 [.int (zI 0), .null, .int (zI 0)])
              have hal : μ q_120 = none := hk7.no f_120
              refine z_dup hX (by first | rfl | exact va_rf_c _) dX0_pieces_123 ?_
              refine z_callv (z_runI hX (x_alD _ _ (zu_s _ _ _) (ka _ _ (hk7 _ _ hO1))) (cwI 0 hX.ts (lw_meth q1186) rfl rfl rfl (hX.t q68) (hX.t q1184) (hX.t q1185) rfl (by decide +kernel) (zroom (by first | decide | omega) (by decide))) dX0_pieces_124 rfl rfl rfl (by first | exact Nat.le_of_ble_eq_true rfl | simp [va_rf_c, Value.category]) (zhf (by omega) (by omega))) (fun μ_124 h_124 => ?_)
              obtain ⟨hAL, hfr⟩ := h_124
              refine z_astore hX (lv' := [_, _, _, _, _, _, _, _, _, _]) (by first | rfl | exact va_rf_r _) (Nat.le_of_ble_eq_true rfl) (by first | exact zpre_0 | exact zpre_n rfl | exact zpre_1 rfl rfl | exact zpre_1 rfl (va_rf_c _)) rfl dX0_pieces_127 ?_
              have k8 : zKp μ_110 μ_124 := fun y e hy => by rw [hfr y (zne hy f_120)]; exact ka _ _ hy
              have hk8 := hk7.tr k8
              have hw8 := k8 _ _ hPA6.1
              have hli8 := k8 _ _ hPA6.2.1
              have hA18 := k8 _ _ hA16
              have hA28 := k8 _ _ hA26
              have nA1 : q_73 ≠ li := zkne hA18 hli8 (by show (5 : Nat) ≠ 104; decide)
              have nA2 : q_84 ≠ li := zkne hA28 hli8 (by show (5 : Nat) ≠ 104; decide)
              have nw : q_50 ≠ li := zkne hw8 hli8 (by show (12 : Nat) ≠ 104; decide)
              obtain ⟨el, el1, el2⟩ := hAL.k17
              have nal : q_120 ≠ li := zkne el1 hli8 (by rw [el2]; show (17 : Nat) ≠ 104; decide)
              have kx : ∀ {μ2 μ3}, zKp μ μ2 → zKx [li] μ2 μ3 → zKp μ μ3 := fun {μ2 μ3} k0 k z e hz => k z e (k0 z e hz) (by simpa using zne hz hli0)
              refine z_aload hX rfl (by first | rfl | exact va_rf_r _) dX0_pieces_129 ?_
              refine z_aload hX rfl (by first | rfl | exact va_rf_r _) dX0_pieces_131 ?_
              refine z_iconst hX dX0_pieces_133 ?_
              refine z_callq (z_runV hX (x_paLeast (st := false) _ _ hG hk8 hg hli0 hw8 hn.1 hn.2 hB hli8 hA18 (by omega) (by omega)) (cwV 2 hX.ts (lw_V q1187 q1188 q1189 q93 q1190) rfl rfl rfl (by decide +kernel) (zroom (by first | decide | omega) (by decide))) dX0_pieces_134 (by first | assumption | exact zu_s _ _ _ | exact zu_o (by assumption) (by assumption) | exact zu_o (by assumption) (zu_o (by assumption) (by assumption)) | exact (zu_o (by first | assumption | exact Ne.symm (by assumption)) (zu_s _ _ _)) | exact (zu_o (by first | assumption | exact Ne.symm (by assumption)) (by assumption)) | exact (zu_o (by first | assumption | exact Ne.symm (by assumption)) (zu_o (by first | assumption | exact Ne.symm (by assumption)) (zu_s _ _ _))) | exact (zu_o (by first | assumption | exact Ne.symm (by assumption)) (zu_o (by first | assumption | exact Ne.symm (by assumption)) (by assumption))) | exact (zu_o (by first | assumption | exact Ne.symm (by assumption)) (zu_o (by first | assumption | exact Ne.symm (by assumption)) (zu_o (by first | assumption | exact Ne.symm (by assumption)) (zu_s _ _ _)))) | exact (zu_o (by first | assumption | exact Ne.symm (by assumption)) (zu_o (by first | assumption | exact Ne.symm (by assumption)) (zu_o (by first | assumption | exact Ne.symm (by assumption)) (by assumption)))) | exact (zu_o (by first | assumption | exact Ne.symm (by assumption)) (zu_o (by first | assumption | exact Ne.symm (by assumption)) (zu_o (by first | assumption | exact Ne.symm (by assumption)) (zu_o (by first | assumption | exact Ne.symm (by assumption)) (zu_s _ _ _))))) | exact (zu_o (by first | assumption | exact Ne.symm (by assumption)) (zu_o (by first | assumption | exact Ne.symm (by assumption)) (zu_o (by first | assumption | exact Ne.symm (by assumption)) (zu_o (by first | assumption | exact Ne.symm (by assumption)) (by assumption))))) | exact AL.at (by assumption) | exact EL.at (by assumption) | exact LL.at (by assumption)) (ci := 12) rfl rfl rfl rfl (by first | exact Nat.le_of_ble_eq_true rfl | simp [va_rf_c, Value.category]) (zhf (by omega) (by omega))) (fun r_134 μ_134 h_134 => ?_)
              obtain ⟨hls, ⟨lf9, hlf9⟩, hk9⟩ := h_134
              rw [e1] at hls
              obtain ⟨z1, rfl, hz1⟩ := hls
              have k09 := kx hk8 hk9
              have hx9 := k09 _ _ hx
              have hw9 := hk9 _ _ hw8 (by simpa using nw)
              have hA19 := hk9 _ _ hA18 (by simpa using nA1)
              have hA29 := hk9 _ _ hA28 (by simpa using nA2)
              have hAL9 : AL E μ_134 q_120 (zs E 1) 0 [] := hAL.monox hk9 (by simpa using nal) (by simpa using zne hO1 hli0)
              refine z_astore hX (lv' := [_, _, _, _, _, _, _, _, _, _]) (by first | rfl | exact va_rf_r _) (Nat.le_of_ble_eq_true rfl) (by first | exact zpre_0 | exact zpre_n rfl | exact zpre_1 rfl rfl | exact zpre_1 rfl (va_rf_c _)) rfl dX0_pieces_137 ?_
              refine z_aload hX rfl (by first | rfl | exact va_rf_r _) dX0_pieces_139 ?_
              refine z_new hX (C := RX16) (T := TX16) (N := 2) (ci := 14) rfl in_X16 tyX16 tyX16_ok q1221 q1222 q95 dX0_pieces_141 (fs := [.null, .null]) (by decide) (by omega) (by omega) (fun q_141 f_141 => ?_)
              have kp := zKp.new f_141 (zob 14 [.null, .null])
              have qp := zKp.new f_141 (zob 14 [.ref z1, .ref q_73])
              refine z_dup hX (by first | rfl | exact va_rf_c _) dX0_pieces_144 ?_
              refine z_aload hX rfl (by first | rfl | exact va_rf_r _) dX0_pieces_145 ?_
              refine z_aload hX rfl (by first | rfl | exact va_rf_r _) dX0_pieces_147 ?_
              refine z_callv (z_runI hX (x_piI _ _ (zu_s _ _ _) (kp _ _ hz1) (kp _ _ hA19)) (cwI 2 hX.ts (lw_meth q1225) rfl rfl rfl (hX.t q95) (hX.t q1223) (hX.t q1224) rfl (by decide +kernel) (zroom (by first | decide | omega) (by decide))) dX0_pieces_149 rfl rfl rfl (by first | exact Nat.le_of_ble_eq_true rfl | simp [va_rf_c, Value.category]) (zhf (by omega) (by omega))) (fun μ_149 h_149 => ?_)
              obtain rfl := h_149; rw [zu_zu]
              have hAL10 := hAL9.mono qp
              obtain ⟨el10, el11, el12⟩ := hAL10.k17
              have hpc : PL1 (zu μ_134 q_141 (zob 14 [.ref z1, .ref q_73])) q_141 (p, lo, 1) := ⟨z1, q_73, zu_s _ _ _, qp _ _ hz1, qp _ _ hA19⟩
              refine z_callb (z_runV hX (x_addP1 _ _ hAL10 (zu_s _ _ _)) (cwV 1 hX.ts (lw_V q375 q376 q377 q68 q378) rfl rfl rfl (by decide +kernel) (zroom (by first | decide | omega) (by decide))) dX0_pieces_152 (by first | assumption | exact zu_s _ _ _ | exact zu_o (by assumption) (by assumption) | exact zu_o (by assumption) (zu_o (by assumption) (by assumption)) | exact (zu_o (by first | assumption | exact Ne.symm (by assumption)) (zu_s _ _ _)) | exact (zu_o (by first | assumption | exact Ne.symm (by assumption)) (by assumption)) | exact (zu_o (by first | assumption | exact Ne.symm (by assumption)) (zu_o (by first | assumption | exact Ne.symm (by assumption)) (zu_s _ _ _))) | exact (zu_o (by first | assumption | exact Ne.symm (by assumption)) (zu_o (by first | assumption | exact Ne.symm (by assumption)) (by assumption))) | exact (zu_o (by first | assumption | exact Ne.symm (by assumption)) (zu_o (by first | assumption | exact Ne.symm (by assumption)) (zu_o (by first | assumption | exact Ne.symm (by assumption)) (zu_s _ _ _)))) | exact (zu_o (by first | assumption | exact Ne.symm (by assumption)) (zu_o (by first | assumption | exact Ne.symm (by assumption)) (zu_o (by first | assumption | exact Ne.symm (by assumption)) (by assumption)))) | exact (zu_o (by first | assumption | exact Ne.symm (by assumption)) (zu_o (by first | assumption | exact Ne.symm (by assumption)) (zu_o (by first | assumption | exact Ne.symm (by assumption)) (zu_o (by first | assumption | exact Ne.symm (by assumption)) (zu_s _ _ _))))) | exact (zu_o (by first | assumption | exact Ne.symm (by assumption)) (zu_o (by first | assumption | exact Ne.symm (by assumption)) (zu_o (by first | assumption | exact Ne.symm (by assumption)) (zu_o (by first | assumption | exact Ne.symm (by assumption)) (by assumption))))) | exact AL.at (by assumption) | exact EL.at (by assumption) | exact LL.at (by assumption)) (ci := 17) rfl rfl rfl rfl (by first | exact Nat.le_of_ble_eq_true rfl | simp [va_rf_c, Value.category]) (zhf (by omega) (by omega))) (fun r_152 μ_152 h_152 => ?_)
              obtain ⟨rfl, had⟩ := h_152; obtain ⟨b, hb, hAL11, hf11⟩ := had.one
              refine z_pop hX (by first | rfl | exact va_rf_c _) dX0_pieces_155 ?_
              have k11 : ∀ y e, (zu μ_134 q_141 (zob 14 [.ref z1, .ref q_73])) y = some e → kd e ≠ 17 → μ_152 y = some e := fun y e hy h1 => by
                rw [hf11 y (zkne hy el11 (by rw [el12]; exact h1)) (zne hy hb)]
                exact hy
              have k011 : zKp μ μ_152 := fun y e hy => by
                rw [hf11 y (zne hy hal) (zne (qp _ _ (k09 _ _ hy)) hb)]
                exact qp _ _ (k09 _ _ hy)
              have hw11 := k11 _ _ (qp _ _ hw9) (by show (12 : Nat) ≠ 17; decide)
              have hli11 := k11 _ _ (qp _ _ hlf9) (by show (104 : Nat) ≠ 17; decide)
              have hA211 := k11 _ _ (qp _ _ hA29) (by show (5 : Nat) ≠ 17; decide)
              have hz111 := k11 _ _ (qp _ _ hz1) (by show (13 : Nat) ≠ 17; decide)
              have hpc11 : PL1 μ_152 q_141 (p, lo, 1) := hpc.mono (fun y e hy hk => k11 y e hy (by omega))
              have hna : μ b = none := k09.no (qp.no hb)
              have hnb : b ≠ li := Ne.symm (zne (qp _ _ hlf9) hb)
              have nz1 : z1 ≠ li := zkne hz111 hli11 (by show (13 : Nat) ≠ 104; decide)
              have hx11 := k011 _ _ hx
              refine z_aload_n hX rfl (by first | rfl | exact va_rf_r _) dX0_pieces_156 ?_
              refine z_aload hX rfl (by first | rfl | exact va_rf_r _) dX0_pieces_157 ?_
              refine z_aload hX rfl (by first | rfl | exact va_rf_r _) dX0_pieces_159 ?_
              refine z_aload hX rfl (by first | rfl | exact va_rf_r _) dX0_pieces_161 ?_
              refine z_aload hX rfl (by first | rfl | exact va_rf_r _) dX0_pieces_163 ?_
              refine z_iconst hX dX0_pieces_165 ?_
              refine z_callq (z_runV hX (x_paLeast (st := true) _ _ hG k011 hg hli0 hw11 hn.1 hn.2 hB hli11 hA211 (by omega) (by omega)) (cwV 2 hX.ts (lw_V q1187 q1188 q1189 q93 q1190) rfl rfl rfl (by decide +kernel) (zroom (by first | decide | omega) (by decide))) dX0_pieces_166 (by first | assumption | exact zu_s _ _ _ | exact zu_o (by assumption) (by assumption) | exact zu_o (by assumption) (zu_o (by assumption) (by assumption)) | exact (zu_o (by first | assumption | exact Ne.symm (by assumption)) (zu_s _ _ _)) | exact (zu_o (by first | assumption | exact Ne.symm (by assumption)) (by assumption)) | exact (zu_o (by first | assumption | exact Ne.symm (by assumption)) (zu_o (by first | assumption | exact Ne.symm (by assumption)) (zu_s _ _ _))) | exact (zu_o (by first | assumption | exact Ne.symm (by assumption)) (zu_o (by first | assumption | exact Ne.symm (by assumption)) (by assumption))) | exact (zu_o (by first | assumption | exact Ne.symm (by assumption)) (zu_o (by first | assumption | exact Ne.symm (by assumption)) (zu_o (by first | assumption | exact Ne.symm (by assumption)) (zu_s _ _ _)))) | exact (zu_o (by first | assumption | exact Ne.symm (by assumption)) (zu_o (by first | assumption | exact Ne.symm (by assumption)) (zu_o (by first | assumption | exact Ne.symm (by assumption)) (by assumption)))) | exact (zu_o (by first | assumption | exact Ne.symm (by assumption)) (zu_o (by first | assumption | exact Ne.symm (by assumption)) (zu_o (by first | assumption | exact Ne.symm (by assumption)) (zu_o (by first | assumption | exact Ne.symm (by assumption)) (zu_s _ _ _))))) | exact (zu_o (by first | assumption | exact Ne.symm (by assumption)) (zu_o (by first | assumption | exact Ne.symm (by assumption)) (zu_o (by first | assumption | exact Ne.symm (by assumption)) (zu_o (by first | assumption | exact Ne.symm (by assumption)) (by assumption))))) | exact AL.at (by assumption) | exact EL.at (by assumption) | exact LL.at (by assumption)) (ci := 12) rfl rfl rfl rfl (by first | exact Nat.le_of_ble_eq_true rfl | simp [va_rf_c, Value.category]) (zhf (by omega) (by omega))) (fun r_166 μ_166 h_166 => ?_)
              obtain ⟨hls, ⟨lf12, hlf12⟩, hk12⟩ := h_166
              rw [e2] at hls
              obtain ⟨z2, rfl, hz2⟩ := hls
              have k012 := kx k011 hk12
              have hx12 := k012 _ _ hx
              have hw12 := hk12 _ _ hw11 (by simpa using nw)
              have hz112 := hk12 _ _ hz111 (by simpa using nz1)
              have hAL12 : AL E μ_166 q_120 b 10 [q_141] := hAL11.monox hk12 (by simpa using nal) (by simpa using hnb)
              have hPL12 : PL μ_166 [q_141] [(p, lo, 1)] := ⟨rfl, fun i r' p' hr' hp' => by
                cases i with
                | zero =>
                  cases hr'
                  cases hp'
                  exact hpc11.mono (fun y e hy hk => hk12 y e hy (by simpa using zkne hy hli11 (by show kd e ≠ 104; omega)))
                | succ i => cases hr'⟩
              refine z_aload hX rfl (by first | rfl | exact va_rf_r _) dX0_pieces_169 ?_
              refine z_callv (z_runV hX (x_addPieces _ _ hG hg hli0 hn.1 hn.2 hB hal 128 N hT k012 hw12 hlf12 hz112 hz2 hAL12 hna hnb hPL12 (by simp) (by simp only [List.length_singleton]; omega)) (cwV 4 hX.ts (lw_V q1234 q1236 qs27 q65 q1237) rfl rfl rfl (by decide +kernel) (zroom (by first | decide | omega) (by decide))) dX0_pieces_171 (by first | assumption | exact zu_s _ _ _ | exact zu_o (by assumption) (by assumption) | exact zu_o (by assumption) (zu_o (by assumption) (by assumption)) | exact (zu_o (by first | assumption | exact Ne.symm (by assumption)) (zu_s _ _ _)) | exact (zu_o (by first | assumption | exact Ne.symm (by assumption)) (by assumption)) | exact (zu_o (by first | assumption | exact Ne.symm (by assumption)) (zu_o (by first | assumption | exact Ne.symm (by assumption)) (zu_s _ _ _))) | exact (zu_o (by first | assumption | exact Ne.symm (by assumption)) (zu_o (by first | assumption | exact Ne.symm (by assumption)) (by assumption))) | exact (zu_o (by first | assumption | exact Ne.symm (by assumption)) (zu_o (by first | assumption | exact Ne.symm (by assumption)) (zu_o (by first | assumption | exact Ne.symm (by assumption)) (zu_s _ _ _)))) | exact (zu_o (by first | assumption | exact Ne.symm (by assumption)) (zu_o (by first | assumption | exact Ne.symm (by assumption)) (zu_o (by first | assumption | exact Ne.symm (by assumption)) (by assumption)))) | exact (zu_o (by first | assumption | exact Ne.symm (by assumption)) (zu_o (by first | assumption | exact Ne.symm (by assumption)) (zu_o (by first | assumption | exact Ne.symm (by assumption)) (zu_o (by first | assumption | exact Ne.symm (by assumption)) (zu_s _ _ _))))) | exact (zu_o (by first | assumption | exact Ne.symm (by assumption)) (zu_o (by first | assumption | exact Ne.symm (by assumption)) (zu_o (by first | assumption | exact Ne.symm (by assumption)) (zu_o (by first | assumption | exact Ne.symm (by assumption)) (by assumption))))) | exact AL.at (by assumption) | exact EL.at (by assumption) | exact LL.at (by assumption)) (ci := 0) rfl rfl rfl rfl (by first | exact Nat.le_of_ble_eq_true rfl | simp [va_rf_c, Value.category]) (zhf (by omega) (by omega))) (fun μ_171 h_171 => ?_)
              obtain ⟨arr4, c4, rs4, hA4, hP4, hr4, -, hk14, hd14⟩ := h_171
              have k014 : zKp μ μ_171 := fun y e hy => hk14 y e (k012 y e hy) (by
                simp only [List.mem_cons, List.not_mem_nil, or_false, not_or]
                exact ⟨zne hy hli0, zne hy hal, zne hy hna⟩)
              have hx14 := k014 _ _ hx
              have hna4 : μ arr4 = none := by
                rcases hr4 with q | q
                · rw [q]; exact hna
                · exact k012.no q
              have kfin : zKx [x] μ_171 (zu μ_171 x (zx0 L0 h mk tx tl fo (some q_120) hs)) := (zKx.rf _ _).put (by simp) _
              have hA5 : AL E (zu μ_171 x (zx0 L0 h mk tx tl fo (some q_120) hs)) q_120 arr4 c4 rs4 := hA4.monox kfin (by simpa using Ne.symm (zne hx hal)) (by simpa using Ne.symm (zne hx hna4))
              have hP5 : PL (zu μ_171 x (zx0 L0 h mk tx tl fo (some q_120) hs)) rs4 ((p, lo, 1) :: L) := hP4.mono (fun y e hy hk => kfin y e hy (by simpa using zkne hy hx14 (by show kd e ≠ 0; omega)))
              have hA5' : AL E (zu μ_171 x (zob 0 (List.set [.ref L0, .ref h, .ref mk, .ref tx, .int (zI tl), va_rf fo, va_rf pc, .long (zJ hs)] 6 (.ref q_120)))) q_120 arr4 c4 rs4 := hA5
              refine z_aload_n hX rfl (by first | rfl | exact va_rf_r _) dX0_pieces_174 ?_
              refine z_aload hX rfl (by first | rfl | exact va_rf_r _) dX0_pieces_175 ?_
              refine z_put hX (C := RX0) (T := TX0) (N := 8) (ci := 0) rfl in_X0 tyX0 tyX0_ok zn_X0 6 (by decide) q168 (Or.inl rfl) rfl rfl dX0_pieces_177 (by first | assumption | exact zu_s _ _ _ | exact zu_o (by assumption) (by assumption) | exact zu_o (by assumption) (zu_o (by assumption) (by assumption)) | exact (zu_o (by first | assumption | exact Ne.symm (by assumption)) (zu_s _ _ _)) | exact (zu_o (by first | assumption | exact Ne.symm (by assumption)) (by assumption)) | exact (zu_o (by first | assumption | exact Ne.symm (by assumption)) (zu_o (by first | assumption | exact Ne.symm (by assumption)) (zu_s _ _ _))) | exact (zu_o (by first | assumption | exact Ne.symm (by assumption)) (zu_o (by first | assumption | exact Ne.symm (by assumption)) (by assumption))) | exact (zu_o (by first | assumption | exact Ne.symm (by assumption)) (zu_o (by first | assumption | exact Ne.symm (by assumption)) (zu_o (by first | assumption | exact Ne.symm (by assumption)) (zu_s _ _ _)))) | exact (zu_o (by first | assumption | exact Ne.symm (by assumption)) (zu_o (by first | assumption | exact Ne.symm (by assumption)) (zu_o (by first | assumption | exact Ne.symm (by assumption)) (by assumption)))) | exact (zu_o (by first | assumption | exact Ne.symm (by assumption)) (zu_o (by first | assumption | exact Ne.symm (by assumption)) (zu_o (by first | assumption | exact Ne.symm (by assumption)) (zu_o (by first | assumption | exact Ne.symm (by assumption)) (zu_s _ _ _))))) | exact (zu_o (by first | assumption | exact Ne.symm (by assumption)) (zu_o (by first | assumption | exact Ne.symm (by assumption)) (zu_o (by first | assumption | exact Ne.symm (by assumption)) (zu_o (by first | assumption | exact Ne.symm (by assumption)) (by assumption))))) | exact AL.at (by assumption) | exact EL.at (by assumption) | exact LL.at (by assumption)) (Nat.le_of_ble_eq_true rfl) (by first | rfl | exact znar _ | exact znarb _) (by first | rfl | exact zfit _ | exact zfitb _) rfl ?_
              refine z_aload hX rfl (by first | rfl | exact va_rf_r _) dX0_pieces_180 ?_
              refine z_calli (z_runV hX (x_size _ _ hA5') (cwV 0 hX.ts (lw_V q209 q210 q211 q68 q212) rfl rfl rfl (by decide +kernel) (zroom (by first | decide | omega) (by decide))) dX0_pieces_182 (by first | assumption | exact zu_s _ _ _ | exact zu_o (by assumption) (by assumption) | exact zu_o (by assumption) (zu_o (by assumption) (by assumption)) | exact (zu_o (by first | assumption | exact Ne.symm (by assumption)) (zu_s _ _ _)) | exact (zu_o (by first | assumption | exact Ne.symm (by assumption)) (by assumption)) | exact (zu_o (by first | assumption | exact Ne.symm (by assumption)) (zu_o (by first | assumption | exact Ne.symm (by assumption)) (zu_s _ _ _))) | exact (zu_o (by first | assumption | exact Ne.symm (by assumption)) (zu_o (by first | assumption | exact Ne.symm (by assumption)) (by assumption))) | exact (zu_o (by first | assumption | exact Ne.symm (by assumption)) (zu_o (by first | assumption | exact Ne.symm (by assumption)) (zu_o (by first | assumption | exact Ne.symm (by assumption)) (zu_s _ _ _)))) | exact (zu_o (by first | assumption | exact Ne.symm (by assumption)) (zu_o (by first | assumption | exact Ne.symm (by assumption)) (zu_o (by first | assumption | exact Ne.symm (by assumption)) (by assumption)))) | exact (zu_o (by first | assumption | exact Ne.symm (by assumption)) (zu_o (by first | assumption | exact Ne.symm (by assumption)) (zu_o (by first | assumption | exact Ne.symm (by assumption)) (zu_o (by first | assumption | exact Ne.symm (by assumption)) (zu_s _ _ _))))) | exact (zu_o (by first | assumption | exact Ne.symm (by assumption)) (zu_o (by first | assumption | exact Ne.symm (by assumption)) (zu_o (by first | assumption | exact Ne.symm (by assumption)) (zu_o (by first | assumption | exact Ne.symm (by assumption)) (by assumption))))) | exact AL.at (by assumption) | exact EL.at (by assumption) | exact LL.at (by assumption)) (ci := 17) rfl rfl rfl rfl (by first | exact Nat.le_of_ble_eq_true rfl | simp [va_rf_c, Value.category]) (zhf (by omega) (by omega))) (fun r_182 μ_182 h_182 => ?_)
              obtain ⟨rfl, rfl⟩ := h_182
              (try rw [← hQ])
              refine z_ireturn hX dX0_pieces_185 (by omega) (by omega) ?_
              rw [if_pos rfl]
              refine ⟨?_, fun y e hy hn => kfin y e (k014 y e hy) hn, q_120, arr4, c4, rs4, zu_s _ _ _, hal, hna4, hA5, hP5⟩
              have := hP4.1
              simp only [List.length_append, List.length_cons, List.length_nil] at this ⊢
              omega
            · have hr4 : r_110 = true := h_113
              rw [hr4] at hr3; simp only [Bool.not_true, Bool.not_false] at hr3
              exact unb (Or.inr hr3) _ _ _ (hk5.tr hk6) (by omega) (by omega) _ _
        · rw [if_pos h_67] at hC
          subst hC
          refine z_ldc hX (z := -1000001) q647 (by decide) dX0_pieces_70 ?_
          (try rw [← hQ])
          refine z_ireturn hX dX0_pieces_72 (by omega) (by omega) ?_
          rw [if_neg (by decide)]
          exact ⟨rfl, hk3⟩
      · exact bad (fun z => of_decide_eq_false h_44 z.2.2.2) _ _ _ _ _
