/-! X SIDE 25: least mean walked -/
set_option maxRecDepth 100000
/-- the table under way: rows before i done -/
def KT (E : zE) (a : Int → Int) (μ μ1 : zM) (tb : Nat) (i : Int) : Prop := (∀ b, tb ≤ b → μ b = none) ∧ zKp μ μ1 ∧ μ1 tb = some (zaq E 5 9 (fun i => some (tb + 1 + i.toNat))) ∧ ∀ j : Int, 0 ≤ j → j ≤ 8 → ∃ f, μ1 (tb + 1 + j.toNat) = some (zaj E 8 f) ∧ (j < i → eq8 f (kT a j.toNat))
theorem KT.put {E : zE} {a : Int → Int} {μ μ1 : zM} {tb : Nat} {i : Int} (h : KT E a μ μ1 tb i) (i0 : 0 ≤ i) (f : Int → Int) : KT E a μ (zu μ1 (tb + 1 + i.toNat) (zaj E 8 f)) tb i := by
  obtain ⟨h1, h2, h3, h4⟩ := h
  refine ⟨h1, h2.nu (h1 _ (by omega)) _, zu_o (by omega) h3, fun j j0 j1 => ?_⟩
  by_cases q : j = i
  · exact ⟨f, by rw [q]; exact zu_s _ _ _, fun r => by omega⟩
  · obtain ⟨g, g1, g2⟩ := h4 j j0 j1
    exact ⟨g, zu_o (by omega) g1, g2⟩
theorem KT.next {E : zE} {a : Int → Int} {μ μ1 : zM} {tb : Nat} {i : Int} (h : KT E a μ μ1 tb i) {f : Int → Int} (i0 : 0 ≤ i) (hf : μ1 (tb + 1 + i.toNat) = some (zaj E 8 f)) (he : eq8 f (kT a i.toNat)) : KT E a μ μ1 tb (i + 1) := by
  obtain ⟨h1, h2, h3, h4⟩ := h
  refine ⟨h1, h2, h3, fun j j0 j1 => ?_⟩
  by_cases q : j = i
  · rw [q]; exact ⟨f, hf, fun _ => he⟩
  · obtain ⟨g, g1, g2⟩ := h4 j j0 j1
    exact ⟨g, g1, fun r => g2 (by omega)⟩
theorem KT.kp {E : zE} {a : Int → Int} {μ μ1 μ2 : zM} {tb : Nat} {i : Int} (h : KT E a μ μ1 tb i) (k : zKp μ1 μ2) : KT E a μ μ2 tb i := ⟨h.1, h.2.1.tr k, k _ _ h.2.2.1, fun j j0 j1 => by
  obtain ⟨f, g1, g2⟩ := h.2.2.2 j j0 j1
  exact ⟨f, k _ _ g1, g2⟩⟩
theorem KT.T {E : zE} {a : Int → Int} {μ μ1 : zM} {tb : Nat} (h : KT E a μ μ1 tb 9) : TB E μ1 tb (fun k => kT a k.toNat) := ⟨h.2.2.1, fun j j0 j1 => by
  obtain ⟨f, g1, g2⟩ := h.2.2.2 j j0 j1
  exact ⟨f, g1, g2 (by omega)⟩⟩
theorem KT.new {E : zE} {a : Int → Int} {μ : zM} {tb : Nat} (hn : ∀ b, tb ≤ b → μ b = none) : KT E a μ (zmm E μ tb) tb 1 := by
  refine ⟨hn, fun q e hq => ?_, if_pos rfl, fun j j0 j1 => ⟨fun _ => 0, ?_, fun r => ?_⟩⟩
  · have h1 : q < tb := Nat.lt_of_not_le (fun z => by rw [hn q z] at hq; cases hq)
    show zmm E μ tb q = _
    unfold zmm
    rw [if_neg (by omega), if_neg (by omega)]
    exact hq
  · show zmm E μ tb _ = _
    unfold zmm
    rw [if_neg (by omega), if_pos (by omega)]
  · obtain rfl : j = 0 := by omega
    exact fun _ _ _ => rfl
theorem x_leastMean (l : Launch) (E : zE) {μ : zM} {x : Nat} {a : Int → Int} (hG : xG E μ x a) (hg : gV a) : Met l yX0_leastMean (ws_ yX0_leastMean cX0_leastMean 5 (some (.object "RatioGraph$Fraction"))) (zR 4 74 209) (va_Pc [.ref x] (zPre E μ)) (zQq E (fun r μ' => FM μ' r (kmG a) ∧ zKp μ μ')) 74 209 (zA E) := by
  have h16 := hg.1
  have hn := gV_n hg
  obtain ⟨L, arr, c, rs, h', mk, tx, tl, fo, pc, hs, hx, hE⟩ := hG
  have hlen := hE.2.1
  refine zmet (cc := cX0_leastMean) [_, _, _, _, _] (by decide) (Nat.le_of_ble_eq_true rfl) rfl rfl ?_
  intro X hl hX hinit; subst hl
  have hX : zOK X _ cX0_leastMean RX0 (some (.object "RatioGraph$Fraction")) 5 := hX
  generalize hQ : MQ _ _ _ _ _ _ _ = Q
  refine z_bipush hX (by decide) dX0_leastMean_0 ?_
  refine z_bipush hX (by decide) dX0_leastMean_2 ?_
  refine z_newM hX q664 dX0_leastMean_4 (by omega) (by omega) (fun tb hnew => ?_)
  refine z_astore_n hX (lv' := [_, _, _, _, _]) (by first | rfl | exact va_rf_r _) (Nat.le_of_ble_eq_true rfl) (by first | exact zpre_0 | exact zpre_n rfl | exact zpre_1 rfl rfl | exact zpre_1 rfl (va_rf_c _)) rfl dX0_leastMean_8 ?_
  have last : ∀ (k : Nat) (i : Int) (μ1 : zM) (ac : Option Nat) (β : Option (Int × Int)) (ce sl : Nat), 0 ≤ i → i ≤ 8 → 8 < i + k → KT E a μ μ1 tb 9 → FM μ1 ac β → (er i 8).foldl (kmS a) β = kmG a → (ce : Int) ≤ 10 + 8 * i → (sl : Int) ≤ 81 + 16 * i → ∀ y, zW X (zR 4 74 209) E (μ1) ce sl Q 138 [some (.ref x), some (.ref tb), some (va_rf ac), some (.int (zI i)), y] [] := by
    intro k
    induction k with
    | zero => intros; exfalso; omega
    | succ k ih =>
      intro i μ1 ac β ce sl i0 i1 hk hK hA hs hce hsl y
      refine zW.mask [true, true, true, true, false] (lv' := [_, _, _, _, none]) rfl ?_
      refine z_iload_n hX rfl dX0_leastMean_138 ?_
      refine z_bipush hX (by decide) dX0_leastMean_139 ?_
      refine z_icmp_ge hX (by omega) (by omega) dX0_leastMean_141 (tgt := 199) rfl (fun h_141 => ?_) (fun h_141 => ?_)
      · rw [er_nil (by omega)] at hs
        subst hs
        refine z_aload_n hX rfl (by first | rfl | exact va_rf_r _) dX0_leastMean_199 ?_
        (try rw [← hQ])
        first | refine z_areturn hX (r := some _) rfl (by first | exact Or.inl ⟨_, rfl⟩ | exact Or.inr ⟨_, rfl⟩) dX0_leastMean_200 (by omega) (by omega) ?_ | refine z_areturn hX (r := none) rfl (by first | exact Or.inl ⟨_, rfl⟩ | exact Or.inr ⟨_, rfl⟩) dX0_leastMean_200 (by omega) (by omega) ?_ | refine z_areturn hX rfl (by first | exact Or.inl ⟨_, rfl⟩ | exact Or.inr ⟨_, rfl⟩) dX0_leastMean_200 (by omega) (by omega) ?_
        exact ⟨hA, hK.2.1⟩
      · have hT := hK.T
        obtain ⟨f, hf, hfe⟩ := hT.2 8 (by omega) (by omega)
        have ht := hK.2.2.1
        have b8 := kT_in hg 8 i (by omega) (by omega) i0 (by omega)
        have fv : f i = kT a 8 i := hfe i i0 (by omega)
        rw [show (fun k : Int => kT a k.toNat) 8 i = f i from fv.symm] at b8
        rw [er_cons (show i < 8 by omega), List.foldl_cons] at hs
        have tail : ∀ (μ2 : zM) (ac2 : Option Nat) (w : Option (Int × Int)) (ce2 sl2 : Nat), zKp μ1 μ2 → FM μ2 ac2 w → kmS a β i = kmJ w β → (ce2 : Int) ≤ 18 + 8 * i → (sl2 : Int) ≤ 97 + 16 * i → zW X (zR 4 74 209) E μ2 ce2 sl2 Q 166 [some (.ref x), some (.ref tb), some (va_rf ac), some (.int (zI i)), none] [va_rf ac2] := by
          intro μ2 ac2 w ce2 sl2 hk2 hA2 hw hc2 hl2
          have hK2 := hK.kp hk2
          rw [hw] at hs
          cases w with
          | none =>
            obtain rfl : ac2 = none := hA2
            refine z_astore hX (lv' := [_, _, _, _, _]) (by first | rfl | exact va_rf_r _) (Nat.le_of_ble_eq_true rfl) (by first | exact zpre_0 | exact zpre_n rfl | exact zpre_1 rfl rfl | exact zpre_1 rfl (va_rf_c _)) rfl dX0_leastMean_166 ?_
            refine z_aload hX rfl (by first | rfl | exact va_rf_r _) dX0_leastMean_168 ?_
            refine z_ifnull_0 hX dX0_leastMean_170 (tgt := 191) rfl ?_
            refine z_aload_n hX rfl (by first | rfl | exact va_rf_r _) dX0_leastMean_191 ?_
            refine z_astore_n hX (lv' := [_, _, _, _, _]) (by first | rfl | exact va_rf_r _) (Nat.le_of_ble_eq_true rfl) (by first | exact zpre_0 | exact zpre_n rfl | exact zpre_1 rfl rfl | exact zpre_1 rfl (va_rf_c _)) rfl dX0_leastMean_192 ?_
            refine z_iinc hX (lv' := [_, _, _, _, _]) rfl (Nat.le_of_ble_eq_true rfl) (by first | exact zpre_0 | exact zpre_n rfl | exact zpre_1 rfl rfl | exact zpre_1 rfl (va_rf_c _)) rfl dX0_leastMean_193 ?_
            refine z_goto hX (tgt := 138) dX0_leastMean_196 rfl ?_
            exact ih (i + 1) μ2 ac β ce2 sl2 (by omega) (by omega) (by omega) hK2 (hA.kp hk2) hs (by omega) (by omega) _
          | some u =>
            have hA3 := hA2
            obtain ⟨fr, rfl, hfr, u1, u2⟩ := hA2
            cases β with
            | none =>
              obtain rfl : ac = none := hA
              refine z_astore hX (lv' := [_, _, _, _, _]) (by first | rfl | exact va_rf_r _) (Nat.le_of_ble_eq_true rfl) (by first | exact zpre_0 | exact zpre_n rfl | exact zpre_1 rfl rfl | exact zpre_1 rfl (va_rf_c _)) rfl dX0_leastMean_166 ?_
              refine z_aload hX rfl (by first | rfl | exact va_rf_r _) dX0_leastMean_168 ?_
              refine z_ifnull_r hX dX0_leastMean_170 ?_
              refine z_aload_n hX rfl (by first | rfl | exact va_rf_r _) dX0_leastMean_173 ?_
              refine z_ifnull_0 hX dX0_leastMean_174 (tgt := 186) rfl ?_
              refine z_aload hX rfl (by first | rfl | exact va_rf_r _) dX0_leastMean_186 ?_
              refine z_goto hX (tgt := 192) dX0_leastMean_188 rfl ?_
              refine z_astore_n hX (lv' := [_, _, _, _, _]) (by first | rfl | exact va_rf_r _) (Nat.le_of_ble_eq_true rfl) (by first | exact zpre_0 | exact zpre_n rfl | exact zpre_1 rfl rfl | exact zpre_1 rfl (va_rf_c _)) rfl dX0_leastMean_192 ?_
              refine z_iinc hX (lv' := [_, _, _, _, _]) rfl (Nat.le_of_ble_eq_true rfl) (by first | exact zpre_0 | exact zpre_n rfl | exact zpre_1 rfl rfl | exact zpre_1 rfl (va_rf_c _)) rfl dX0_leastMean_193 ?_
              refine z_goto hX (tgt := 138) dX0_leastMean_196 rfl ?_
              exact ih (i + 1) μ2 (some fr) (some u) ce2 sl2 (by omega) (by omega) (by omega) hK2 hA3 hs (by omega) (by omega) _
            | some b =>
              have hA4 := hA.kp hk2
              obtain ⟨fb, rfl, hfb, v1, v2⟩ := hA4
              have d1 := frD_pos (n := u.1) (d := u.2) (by omega)
              have d2 := frD_le (n := u.1) (d := u.2) (by omega)
              have d3 := frN_le (n := u.1) (d := u.2) (M := 2000) (by omega) (by omega) (by omega)
              have d4 := frD_pos (n := b.1) (d := b.2) (by omega)
              have d5 := frD_le (n := b.1) (d := b.2) (by omega)
              have d6 := frN_le (n := b.1) (d := b.2) (M := 2000) (by omega) (by omega) (by omega)
              have hs1 := fr_sg (n := u.1) (d := u.2) (p := b.1) (q := b.2) (by omega) (by omega)
              have hsr := gsg_r (u.1 * b.2 - b.1 * u.2)
              simp only [kmJ] at hs
              refine z_astore hX (lv' := [_, _, _, _, _]) (by first | rfl | exact va_rf_r _) (Nat.le_of_ble_eq_true rfl) (by first | exact zpre_0 | exact zpre_n rfl | exact zpre_1 rfl rfl | exact zpre_1 rfl (va_rf_c _)) rfl dX0_leastMean_166 ?_
              refine z_aload hX rfl (by first | rfl | exact va_rf_r _) dX0_leastMean_168 ?_
              refine z_ifnull_r hX dX0_leastMean_170 ?_
              refine z_aload_n hX rfl (by first | rfl | exact va_rf_r _) dX0_leastMean_173 ?_
              refine z_ifnull_r hX dX0_leastMean_174 ?_
              refine z_aload hX rfl (by first | rfl | exact va_rf_r _) dX0_leastMean_177 ?_
              refine z_aload_n hX rfl (by first | rfl | exact va_rf_r _) dX0_leastMean_179 ?_
              refine z_calli (z_runV hX (x_frC _ _ hfr hfb (by unfold lB; omega) (by omega) (by unfold lB; omega) (by omega)) (cwV 1 hX.ts (lw_V q705 q706 q707 q84 q708) rfl rfl rfl (by decide +kernel) (zroom (by decide) (by decide))) dX0_leastMean_180 (by first | assumption | exact zu_s _ _ _ | exact zu_o (by assumption) (by assumption) | exact zu_o (by assumption) (zu_o (by assumption) (by assumption)) | exact (zu_o (by first | assumption | exact Ne.symm (by assumption)) (zu_s _ _ _)) | exact (zu_o (by first | assumption | exact Ne.symm (by assumption)) (by assumption)) | exact (zu_o (by first | assumption | exact Ne.symm (by assumption)) (zu_o (by first | assumption | exact Ne.symm (by assumption)) (zu_s _ _ _))) | exact (zu_o (by first | assumption | exact Ne.symm (by assumption)) (zu_o (by first | assumption | exact Ne.symm (by assumption)) (by assumption))) | exact (zu_o (by first | assumption | exact Ne.symm (by assumption)) (zu_o (by first | assumption | exact Ne.symm (by assumption)) (zu_o (by first | assumption | exact Ne.symm (by assumption)) (zu_s _ _ _)))) | exact (zu_o (by first | assumption | exact Ne.symm (by assumption)) (zu_o (by first | assumption | exact Ne.symm (by assumption)) (zu_o (by first | assumption | exact Ne.symm (by assumption)) (by assumption)))) | exact (zu_o (by first | assumption | exact Ne.symm (by assumption)) (zu_o (by first | assumption | exact Ne.symm (by assumption)) (zu_o (by first | assumption | exact Ne.symm (by assumption)) (zu_o (by first | assumption | exact Ne.symm (by assumption)) (zu_s _ _ _))))) | exact (zu_o (by first | assumption | exact Ne.symm (by assumption)) (zu_o (by first | assumption | exact Ne.symm (by assumption)) (zu_o (by first | assumption | exact Ne.symm (by assumption)) (zu_o (by first | assumption | exact Ne.symm (by assumption)) (by assumption))))) | exact AL.at (by assumption) | exact EL.at (by assumption) | exact LL.at (by assumption)) (ci := 5) rfl rfl rfl rfl (by first | exact Nat.le_of_ble_eq_true rfl | simp [va_rf_c, Value.category]) (zhf (by omega) (by omega))) (fun r_180 μ_180 h_180 => ?_)
              obtain ⟨rfl, rfl⟩ := h_180; rw [hs1]
              refine z_if_ge hX (by omega) dX0_leastMean_183 (tgt := 191) rfl (fun h_183 => ?_) (fun h_183 => ?_)
              · rw [if_neg (by omega)] at hs
                refine z_aload_n hX rfl (by first | rfl | exact va_rf_r _) dX0_leastMean_191 ?_
                refine z_astore_n hX (lv' := [_, _, _, _, _]) (by first | rfl | exact va_rf_r _) (Nat.le_of_ble_eq_true rfl) (by first | exact zpre_0 | exact zpre_n rfl | exact zpre_1 rfl rfl | exact zpre_1 rfl (va_rf_c _)) rfl dX0_leastMean_192 ?_
                refine z_iinc hX (lv' := [_, _, _, _, _]) rfl (Nat.le_of_ble_eq_true rfl) (by first | exact zpre_0 | exact zpre_n rfl | exact zpre_1 rfl rfl | exact zpre_1 rfl (va_rf_c _)) rfl dX0_leastMean_193 ?_
                refine z_goto hX (tgt := 138) dX0_leastMean_196 rfl ?_
                exact ih (i + 1) μ2 (some fb) (some b) ce2 sl2 (by omega) (by omega) (by omega) hK2 (hA.kp hk2) hs (by omega) (by omega) _
              · rw [if_pos (by omega)] at hs
                refine z_aload hX rfl (by first | rfl | exact va_rf_r _) dX0_leastMean_186 ?_
                refine z_goto hX (tgt := 192) dX0_leastMean_188 rfl ?_
                refine z_astore_n hX (lv' := [_, _, _, _, _]) (by first | rfl | exact va_rf_r _) (Nat.le_of_ble_eq_true rfl) (by first | exact zpre_0 | exact zpre_n rfl | exact zpre_1 rfl rfl | exact zpre_1 rfl (va_rf_c _)) rfl dX0_leastMean_192 ?_
                refine z_iinc hX (lv' := [_, _, _, _, _]) rfl (Nat.le_of_ble_eq_true rfl) (by first | exact zpre_0 | exact zpre_n rfl | exact zpre_1 rfl rfl | exact zpre_1 rfl (va_rf_c _)) rfl dX0_leastMean_193 ?_
                refine z_goto hX (tgt := 138) dX0_leastMean_196 rfl ?_
                exact ih (i + 1) μ2 (some fr) (some u) ce2 sl2 (by omega) (by omega) (by omega) hK2 hA3 hs (by omega) (by omega) _
        refine z_aload_n hX rfl (by first | rfl | exact va_rf_r _) dX0_leastMean_144 ?_
        refine z_bipush hX (by decide) dX0_leastMean_145 ?_
        refine z_aaloadB hX (b := tb + 1 + (8:Int).toNat) dX0_leastMean_147 ht rfl (by omega) ?_
        refine z_iload_n hX rfl dX0_leastMean_148 ?_
        refine z_laload hX dX0_leastMean_149 (by first | assumption | exact zu_s _ _ _ | exact zu_o (by assumption) (by assumption) | exact zu_o (by assumption) (zu_o (by assumption) (by assumption)) | exact (zu_o (by first | assumption | exact Ne.symm (by assumption)) (zu_s _ _ _)) | exact (zu_o (by first | assumption | exact Ne.symm (by assumption)) (by assumption)) | exact (zu_o (by first | assumption | exact Ne.symm (by assumption)) (zu_o (by first | assumption | exact Ne.symm (by assumption)) (zu_s _ _ _))) | exact (zu_o (by first | assumption | exact Ne.symm (by assumption)) (zu_o (by first | assumption | exact Ne.symm (by assumption)) (by assumption))) | exact (zu_o (by first | assumption | exact Ne.symm (by assumption)) (zu_o (by first | assumption | exact Ne.symm (by assumption)) (zu_o (by first | assumption | exact Ne.symm (by assumption)) (zu_s _ _ _)))) | exact (zu_o (by first | assumption | exact Ne.symm (by assumption)) (zu_o (by first | assumption | exact Ne.symm (by assumption)) (zu_o (by first | assumption | exact Ne.symm (by assumption)) (by assumption)))) | exact (zu_o (by first | assumption | exact Ne.symm (by assumption)) (zu_o (by first | assumption | exact Ne.symm (by assumption)) (zu_o (by first | assumption | exact Ne.symm (by assumption)) (zu_o (by first | assumption | exact Ne.symm (by assumption)) (zu_s _ _ _))))) | exact (zu_o (by first | assumption | exact Ne.symm (by assumption)) (zu_o (by first | assumption | exact Ne.symm (by assumption)) (zu_o (by first | assumption | exact Ne.symm (by assumption)) (zu_o (by first | assumption | exact Ne.symm (by assumption)) (by assumption))))) | exact AL.at (by assumption) | exact EL.at (by assumption) | exact LL.at (by assumption)) (by omega) ?_
        refine z_ldc2_w hX (z := 1125899906842624) q666 (by decide) dX0_leastMean_150 ?_
        refine z_lcmp_ge hX (by omega) (by omega) dX0_leastMean_153 dX0_leastMean_154 (tgt := 165) rfl (fun h_153 => ?_) (fun h_153 => ?_)
        · refine z_null hX dX0_leastMean_165 ?_
          exact tail μ1 none none ce sl (zKp.rf _) rfl (by unfold kmS; rw [if_neg (by show ¬ kT a 8 i < _; omega)]) (by omega) (by omega)
        · refine z_aload_n hX rfl (by first | rfl | exact va_rf_r _) dX0_leastMean_157 ?_
          refine z_iload_n hX rfl dX0_leastMean_158 ?_
          refine z_callq (z_runS hX (x_greatest _ _ hT (kT_in hg) (v := i) (by omega) (by show kT a 8 i < _; omega)) (va_cwS 2 hX.ts (lw_S q670 q671 q65 q672) rfl rfl rfl (by decide +kernel) (zroom (by omega) (by decide))) dX0_leastMean_159 rfl rfl rfl (by first | exact Nat.le_of_ble_eq_true rfl | simp [va_rf_c, Value.category]) (zhf (by omega) (by omega))) (fun r_159 μ_159 h_159 => ?_)
          obtain ⟨hF, hk3⟩ := h_159
          refine z_goto hX (tgt := 166) dX0_leastMean_162 rfl ?_
          exact tail μ_159 r_159 _ _ _ hk3 hF (by unfold kmS; rw [if_pos (by show kT a 8 i < _; omega)]) (by omega) (by omega)
  have outer : ∀ (k : Nat) (i : Int) (μ1 : zM), 1 ≤ i → i ≤ 9 → 9 < i + k → KT E a μ μ1 tb i → ∀ y3 y4, zW X (zR 4 74 209) E (μ1) 10 81 Q 11 [some (.ref x), some (.ref tb), some (.int (zI i)), y3, y4] [] := by
    intro k
    induction k with
    | zero => intros; exfalso; omega
    | succ k ih =>
      intro i μ1 i0 i1 hk hK y3 y4
      refine zW.mask [true, true, true, false, false] (lv' := [_, _, _, none, none]) rfl ?_
      refine z_iload_n hX rfl dX0_leastMean_11 ?_
      refine z_bipush hX (by decide) dX0_leastMean_12 ?_
      refine z_icmp_gt hX (by omega) (by omega) dX0_leastMean_14 (tgt := 134) rfl (fun h_14 => ?_) (fun h_14 => ?_)
      · obtain rfl : i = 9 := by omega
        refine z_null hX dX0_leastMean_134 ?_
        refine z_astore_n hX (lv' := [_, _, _, _, _]) (by first | rfl | exact va_rf_r _) (Nat.le_of_ble_eq_true rfl) (by first | exact zpre_0 | exact zpre_n rfl | exact zpre_1 rfl rfl | exact zpre_1 rfl (va_rf_c _)) rfl dX0_leastMean_135 ?_
        refine z_iconst hX dX0_leastMean_136 ?_
        refine z_istore_n hX (lv' := [_, _, _, _, _]) (Nat.le_of_ble_eq_true rfl) (by first | exact zpre_0 | exact zpre_n rfl | exact zpre_1 rfl rfl | exact zpre_1 rfl (va_rf_c _)) rfl dX0_leastMean_137 ?_
        exact last 9 0 μ1 none none 10 81 (by omega) (by omega) (by omega) hK rfl rfl (by omega) (by omega) none
      · have edges : ∀ (m : Nat) (e : Int) (f f2 : Int → Int) (μ2 : zM), 0 ≤ e → e ≤ a 112 → a 112 < e + m → KT E a μ μ2 tb i → μ2 (tb + 1 + i.toNat) = some (zaj E 8 f) → eq8 f f2 → kB (99 * i) f2 → (er e (a 112)).foldl (kE a (kT a (i - 1).toNat)) f2 = kT a i.toNat → ∀ y4, zW X (zR 4 74 209) E (μ2) 10 81 Q 41 [some (.ref x), some (.ref tb), some (.int (zI i)), some (.int (zI e)), y4] [] := by
          intro m
          induction m with
          | zero => intros; exfalso; omega
          | succ m ih2 =>
            intro e f f2 μ2 e0 e1 hm hK2 hf hff hB hs y4
            have hE2 := hE.mono (fun z e hz _ => hK2.2.1 z e hz)
            have hx2 := hK2.2.1 _ _ hx
            have ht2 := hK2.2.2.1
            obtain ⟨p, hp, hpe⟩ := hK2.2.2.2 (i - 1) (by omega) (by omega)
            have hpe := hpe (by omega)
            have hpB := kT_b hg (i - 1).toNat (by omega)
            refine zW.mask [true, true, true, true, false] (lv' := [_, _, _, _, none]) rfl ?_
            refine z_iload_n hX rfl dX0_leastMean_41 ?_
            refine z_aload_n hX rfl (by first | rfl | exact va_rf_r _) dX0_leastMean_42 ?_
            refine z_get hX (C := RX0) (T := TX0) (N := 8) (ci := 0) rfl in_X0 0 (by decide) q159 (Or.inl rfl) dX0_leastMean_43 (by first | assumption | exact zu_s _ _ _ | exact zu_o (by assumption) (by assumption) | exact zu_o (by assumption) (zu_o (by assumption) (by assumption)) | exact (zu_o (by first | assumption | exact Ne.symm (by assumption)) (zu_s _ _ _)) | exact (zu_o (by first | assumption | exact Ne.symm (by assumption)) (by assumption)) | exact (zu_o (by first | assumption | exact Ne.symm (by assumption)) (zu_o (by first | assumption | exact Ne.symm (by assumption)) (zu_s _ _ _))) | exact (zu_o (by first | assumption | exact Ne.symm (by assumption)) (zu_o (by first | assumption | exact Ne.symm (by assumption)) (by assumption))) | exact (zu_o (by first | assumption | exact Ne.symm (by assumption)) (zu_o (by first | assumption | exact Ne.symm (by assumption)) (zu_o (by first | assumption | exact Ne.symm (by assumption)) (zu_s _ _ _)))) | exact (zu_o (by first | assumption | exact Ne.symm (by assumption)) (zu_o (by first | assumption | exact Ne.symm (by assumption)) (zu_o (by first | assumption | exact Ne.symm (by assumption)) (by assumption)))) | exact (zu_o (by first | assumption | exact Ne.symm (by assumption)) (zu_o (by first | assumption | exact Ne.symm (by assumption)) (zu_o (by first | assumption | exact Ne.symm (by assumption)) (zu_o (by first | assumption | exact Ne.symm (by assumption)) (zu_s _ _ _))))) | exact (zu_o (by first | assumption | exact Ne.symm (by assumption)) (zu_o (by first | assumption | exact Ne.symm (by assumption)) (zu_o (by first | assumption | exact Ne.symm (by assumption)) (zu_o (by first | assumption | exact Ne.symm (by assumption)) (by assumption))))) | exact AL.at (by assumption) | exact EL.at (by assumption) | exact LL.at (by assumption)) rfl ?_
            refine z_calli (z_runV hX (x_size _ _ hE2.1) (cwV 0 hX.ts (lw_V q209 q210 q211 q68 q212) rfl rfl rfl (by decide +kernel) (zroom (by decide) (by decide))) dX0_leastMean_46 (by first | assumption | exact zu_s _ _ _ | exact zu_o (by assumption) (by assumption) | exact zu_o (by assumption) (zu_o (by assumption) (by assumption)) | exact (zu_o (by first | assumption | exact Ne.symm (by assumption)) (zu_s _ _ _)) | exact (zu_o (by first | assumption | exact Ne.symm (by assumption)) (by assumption)) | exact (zu_o (by first | assumption | exact Ne.symm (by assumption)) (zu_o (by first | assumption | exact Ne.symm (by assumption)) (zu_s _ _ _))) | exact (zu_o (by first | assumption | exact Ne.symm (by assumption)) (zu_o (by first | assumption | exact Ne.symm (by assumption)) (by assumption))) | exact (zu_o (by first | assumption | exact Ne.symm (by assumption)) (zu_o (by first | assumption | exact Ne.symm (by assumption)) (zu_o (by first | assumption | exact Ne.symm (by assumption)) (zu_s _ _ _)))) | exact (zu_o (by first | assumption | exact Ne.symm (by assumption)) (zu_o (by first | assumption | exact Ne.symm (by assumption)) (zu_o (by first | assumption | exact Ne.symm (by assumption)) (by assumption)))) | exact (zu_o (by first | assumption | exact Ne.symm (by assumption)) (zu_o (by first | assumption | exact Ne.symm (by assumption)) (zu_o (by first | assumption | exact Ne.symm (by assumption)) (zu_o (by first | assumption | exact Ne.symm (by assumption)) (zu_s _ _ _))))) | exact (zu_o (by first | assumption | exact Ne.symm (by assumption)) (zu_o (by first | assumption | exact Ne.symm (by assumption)) (zu_o (by first | assumption | exact Ne.symm (by assumption)) (zu_o (by first | assumption | exact Ne.symm (by assumption)) (by assumption))))) | exact AL.at (by assumption) | exact EL.at (by assumption) | exact LL.at (by assumption)) (ci := 17) rfl rfl rfl rfl (by first | exact Nat.le_of_ble_eq_true rfl | simp [va_rf_c, Value.category]) (zhf (by omega) (by omega))) (fun r_46 μ_46 h_46 => ?_)
            obtain ⟨rfl, rfl⟩ := h_46
            refine z_icmp_ge hX (by omega) (by omega) dX0_leastMean_49 (tgt := 128) rfl (fun h_49 => ?_) (fun h_49 => ?_)
            · rw [er_nil (by omega)] at hs
              subst hs
              refine z_iinc hX (lv' := [_, _, _, _, _]) rfl (Nat.le_of_ble_eq_true rfl) (by first | exact zpre_0 | exact zpre_n rfl | exact zpre_1 rfl rfl | exact zpre_1 rfl (va_rf_c _)) rfl dX0_leastMean_128 ?_
              refine z_goto hX (tgt := 11) dX0_leastMean_131 rfl ?_
              exact ih (i + 1) μ2 (by omega) (by omega) (by omega) (hK2.next (by omega) hf hff) _ _
            · obtain ⟨r, g, e1', e2, g0, g1, g2, g3, g4, -⟩ := hE2.rd e0 (show e < a 112 by omega)
              have he := hg.2 e e0 (by omega)
              unfold eV at he
              rw [er_cons (show e < a 112 by omega), List.foldl_cons] at hs
              have hB2 := kE_b hg e0 (show e < a 112 by omega) (M := 99 * ((i - 1).toNat : Int)) (by omega) hpB (cur := f2) (by rw [show 99 * ((i - 1).toNat : Int) + 99 = 99 * i by omega]; exact hB)
              rw [show 99 * ((i - 1).toNat : Int) + 99 = 99 * i by omega] at hB2
              have hff2 := kE_8 (f := f) (g := f2) hn e0 (show e < a 112 by omega) hpe hff
              have b1 := hpB (a (7 * e)) (by omega) (by omega)
              have b2 := hB (a (7 * e + 1)) (by omega) (by omega)
              rw [← hpe (a (7 * e)) (by omega) (by omega)] at b1
              rw [← hff (a (7 * e + 1)) (by omega) (by omega)] at b2
              rw [← g0, ← g1, ← g2] at he
              rw [← g0] at b1
              rw [← g1] at b2
              have hk2 : kE a p f e = if p (g 0) < 1125899906842624 then zf f (g 1) (min (f (g 1)) (p (g 0) + g 2)) else f := by
                unfold kE
                rw [← g0, ← g1, ← g2]
              rw [hk2] at hff2
              refine z_aload_n hX rfl (by first | rfl | exact va_rf_r _) dX0_leastMean_52 ?_
              refine z_get hX (C := RX0) (T := TX0) (N := 8) (ci := 0) rfl in_X0 0 (by decide) q159 (Or.inl rfl) dX0_leastMean_53 (by first | assumption | exact zu_s _ _ _ | exact zu_o (by assumption) (by assumption) | exact zu_o (by assumption) (zu_o (by assumption) (by assumption)) | exact (zu_o (by first | assumption | exact Ne.symm (by assumption)) (zu_s _ _ _)) | exact (zu_o (by first | assumption | exact Ne.symm (by assumption)) (by assumption)) | exact (zu_o (by first | assumption | exact Ne.symm (by assumption)) (zu_o (by first | assumption | exact Ne.symm (by assumption)) (zu_s _ _ _))) | exact (zu_o (by first | assumption | exact Ne.symm (by assumption)) (zu_o (by first | assumption | exact Ne.symm (by assumption)) (by assumption))) | exact (zu_o (by first | assumption | exact Ne.symm (by assumption)) (zu_o (by first | assumption | exact Ne.symm (by assumption)) (zu_o (by first | assumption | exact Ne.symm (by assumption)) (zu_s _ _ _)))) | exact (zu_o (by first | assumption | exact Ne.symm (by assumption)) (zu_o (by first | assumption | exact Ne.symm (by assumption)) (zu_o (by first | assumption | exact Ne.symm (by assumption)) (by assumption)))) | exact (zu_o (by first | assumption | exact Ne.symm (by assumption)) (zu_o (by first | assumption | exact Ne.symm (by assumption)) (zu_o (by first | assumption | exact Ne.symm (by assumption)) (zu_o (by first | assumption | exact Ne.symm (by assumption)) (zu_s _ _ _))))) | exact (zu_o (by first | assumption | exact Ne.symm (by assumption)) (zu_o (by first | assumption | exact Ne.symm (by assumption)) (zu_o (by first | assumption | exact Ne.symm (by assumption)) (zu_o (by first | assumption | exact Ne.symm (by assumption)) (by assumption))))) | exact AL.at (by assumption) | exact EL.at (by assumption) | exact LL.at (by assumption)) rfl ?_
              refine z_iload_n hX rfl dX0_leastMean_56 ?_
              refine z_callq (z_runV hX (x_getR _ _ hE2.1 e0 e1') (cwV 1 hX.ts (lw_V q431 q432 q433 q68 q434) rfl rfl rfl (by decide +kernel) (zroom (by decide) (by decide))) dX0_leastMean_57 (by first | assumption | exact zu_s _ _ _ | exact zu_o (by assumption) (by assumption) | exact zu_o (by assumption) (zu_o (by assumption) (by assumption)) | exact (zu_o (by first | assumption | exact Ne.symm (by assumption)) (zu_s _ _ _)) | exact (zu_o (by first | assumption | exact Ne.symm (by assumption)) (by assumption)) | exact (zu_o (by first | assumption | exact Ne.symm (by assumption)) (zu_o (by first | assumption | exact Ne.symm (by assumption)) (zu_s _ _ _))) | exact (zu_o (by first | assumption | exact Ne.symm (by assumption)) (zu_o (by first | assumption | exact Ne.symm (by assumption)) (by assumption))) | exact (zu_o (by first | assumption | exact Ne.symm (by assumption)) (zu_o (by first | assumption | exact Ne.symm (by assumption)) (zu_o (by first | assumption | exact Ne.symm (by assumption)) (zu_s _ _ _)))) | exact (zu_o (by first | assumption | exact Ne.symm (by assumption)) (zu_o (by first | assumption | exact Ne.symm (by assumption)) (zu_o (by first | assumption | exact Ne.symm (by assumption)) (by assumption)))) | exact (zu_o (by first | assumption | exact Ne.symm (by assumption)) (zu_o (by first | assumption | exact Ne.symm (by assumption)) (zu_o (by first | assumption | exact Ne.symm (by assumption)) (zu_o (by first | assumption | exact Ne.symm (by assumption)) (zu_s _ _ _))))) | exact (zu_o (by first | assumption | exact Ne.symm (by assumption)) (zu_o (by first | assumption | exact Ne.symm (by assumption)) (zu_o (by first | assumption | exact Ne.symm (by assumption)) (zu_o (by first | assumption | exact Ne.symm (by assumption)) (by assumption))))) | exact AL.at (by assumption) | exact EL.at (by assumption) | exact LL.at (by assumption)) (ci := 17) rfl rfl rfl rfl (by first | exact Nat.le_of_ble_eq_true rfl | simp [va_rf_c, Value.category]) (zhf (by omega) (by omega))) (fun r_57 μ_57 h_57 => ?_)
              obtain ⟨rfl, rfl⟩ := h_57
              refine z_cast hX q325 (ci := 2) (C := RX2) (T := TX2) (N := 7) rfl dX0_leastMean_60 (by first | assumption | exact zu_s _ _ _ | exact zu_o (by assumption) (by assumption) | exact zu_o (by assumption) (zu_o (by assumption) (by assumption)) | exact (zu_o (by first | assumption | exact Ne.symm (by assumption)) (zu_s _ _ _)) | exact (zu_o (by first | assumption | exact Ne.symm (by assumption)) (by assumption)) | exact (zu_o (by first | assumption | exact Ne.symm (by assumption)) (zu_o (by first | assumption | exact Ne.symm (by assumption)) (zu_s _ _ _))) | exact (zu_o (by first | assumption | exact Ne.symm (by assumption)) (zu_o (by first | assumption | exact Ne.symm (by assumption)) (by assumption))) | exact (zu_o (by first | assumption | exact Ne.symm (by assumption)) (zu_o (by first | assumption | exact Ne.symm (by assumption)) (zu_o (by first | assumption | exact Ne.symm (by assumption)) (zu_s _ _ _)))) | exact (zu_o (by first | assumption | exact Ne.symm (by assumption)) (zu_o (by first | assumption | exact Ne.symm (by assumption)) (zu_o (by first | assumption | exact Ne.symm (by assumption)) (by assumption)))) | exact (zu_o (by first | assumption | exact Ne.symm (by assumption)) (zu_o (by first | assumption | exact Ne.symm (by assumption)) (zu_o (by first | assumption | exact Ne.symm (by assumption)) (zu_o (by first | assumption | exact Ne.symm (by assumption)) (zu_s _ _ _))))) | exact (zu_o (by first | assumption | exact Ne.symm (by assumption)) (zu_o (by first | assumption | exact Ne.symm (by assumption)) (zu_o (by first | assumption | exact Ne.symm (by assumption)) (zu_o (by first | assumption | exact Ne.symm (by assumption)) (by assumption))))) | exact AL.at (by assumption) | exact EL.at (by assumption) | exact LL.at (by assumption)) ?_
              refine z_astore hX (lv' := [_, _, _, _, _]) (by first | rfl | exact va_rf_r _) (Nat.le_of_ble_eq_true rfl) (by first | exact zpre_0 | exact zpre_n rfl | exact zpre_1 rfl rfl | exact zpre_1 rfl (va_rf_c _)) rfl dX0_leastMean_63 ?_
              refine z_aload_n hX rfl (by first | rfl | exact va_rf_r _) dX0_leastMean_65 ?_
              refine z_iload_n hX rfl dX0_leastMean_66 ?_
              refine z_iconst hX dX0_leastMean_67 ?_
              refine z_isub hX dX0_leastMean_68 ?_
              refine z_aaloadB hX (b := tb + 1 + (i - 1).toNat) dX0_leastMean_69 ht2 rfl (by omega) ?_
              refine z_aload hX rfl (by first | rfl | exact va_rf_r _) dX0_leastMean_70 ?_
              refine z_getN hX (C := RX2) (T := TX2) (N := 7) (ci := 2) rfl in_X2 0 (by decide) q338 (Or.inl rfl) dX0_leastMean_72 (by first | assumption | exact zu_s _ _ _ | exact zu_o (by assumption) (by assumption) | exact zu_o (by assumption) (zu_o (by assumption) (by assumption)) | exact (zu_o (by first | assumption | exact Ne.symm (by assumption)) (zu_s _ _ _)) | exact (zu_o (by first | assumption | exact Ne.symm (by assumption)) (by assumption)) | exact (zu_o (by first | assumption | exact Ne.symm (by assumption)) (zu_o (by first | assumption | exact Ne.symm (by assumption)) (zu_s _ _ _))) | exact (zu_o (by first | assumption | exact Ne.symm (by assumption)) (zu_o (by first | assumption | exact Ne.symm (by assumption)) (by assumption))) | exact (zu_o (by first | assumption | exact Ne.symm (by assumption)) (zu_o (by first | assumption | exact Ne.symm (by assumption)) (zu_o (by first | assumption | exact Ne.symm (by assumption)) (zu_s _ _ _)))) | exact (zu_o (by first | assumption | exact Ne.symm (by assumption)) (zu_o (by first | assumption | exact Ne.symm (by assumption)) (zu_o (by first | assumption | exact Ne.symm (by assumption)) (by assumption)))) | exact (zu_o (by first | assumption | exact Ne.symm (by assumption)) (zu_o (by first | assumption | exact Ne.symm (by assumption)) (zu_o (by first | assumption | exact Ne.symm (by assumption)) (zu_o (by first | assumption | exact Ne.symm (by assumption)) (zu_s _ _ _))))) | exact (zu_o (by first | assumption | exact Ne.symm (by assumption)) (zu_o (by first | assumption | exact Ne.symm (by assumption)) (zu_o (by first | assumption | exact Ne.symm (by assumption)) (zu_o (by first | assumption | exact Ne.symm (by assumption)) (by assumption))))) | exact AL.at (by assumption) | exact EL.at (by assumption) | exact LL.at (by assumption)) rfl ?_
              refine z_laload hX dX0_leastMean_75 (by first | assumption | exact zu_s _ _ _ | exact zu_o (by assumption) (by assumption) | exact zu_o (by assumption) (zu_o (by assumption) (by assumption)) | exact (zu_o (by first | assumption | exact Ne.symm (by assumption)) (zu_s _ _ _)) | exact (zu_o (by first | assumption | exact Ne.symm (by assumption)) (by assumption)) | exact (zu_o (by first | assumption | exact Ne.symm (by assumption)) (zu_o (by first | assumption | exact Ne.symm (by assumption)) (zu_s _ _ _))) | exact (zu_o (by first | assumption | exact Ne.symm (by assumption)) (zu_o (by first | assumption | exact Ne.symm (by assumption)) (by assumption))) | exact (zu_o (by first | assumption | exact Ne.symm (by assumption)) (zu_o (by first | assumption | exact Ne.symm (by assumption)) (zu_o (by first | assumption | exact Ne.symm (by assumption)) (zu_s _ _ _)))) | exact (zu_o (by first | assumption | exact Ne.symm (by assumption)) (zu_o (by first | assumption | exact Ne.symm (by assumption)) (zu_o (by first | assumption | exact Ne.symm (by assumption)) (by assumption)))) | exact (zu_o (by first | assumption | exact Ne.symm (by assumption)) (zu_o (by first | assumption | exact Ne.symm (by assumption)) (zu_o (by first | assumption | exact Ne.symm (by assumption)) (zu_o (by first | assumption | exact Ne.symm (by assumption)) (zu_s _ _ _))))) | exact (zu_o (by first | assumption | exact Ne.symm (by assumption)) (zu_o (by first | assumption | exact Ne.symm (by assumption)) (zu_o (by first | assumption | exact Ne.symm (by assumption)) (zu_o (by first | assumption | exact Ne.symm (by assumption)) (by assumption))))) | exact AL.at (by assumption) | exact EL.at (by assumption) | exact LL.at (by assumption)) (by omega) ?_
              refine z_ldc2_w hX (z := 1125899906842624) q666 (by decide) dX0_leastMean_76 ?_
              refine z_lcmp_ge hX (by omega) (by omega) dX0_leastMean_79 dX0_leastMean_80 (tgt := 122) rfl (fun h_79 => ?_) (fun h_79 => ?_)
              · rw [if_neg (by omega)] at hff2
                refine z_iinc hX (lv' := [_, _, _, _, _]) rfl (Nat.le_of_ble_eq_true rfl) (by first | exact zpre_0 | exact zpre_n rfl | exact zpre_1 rfl rfl | exact zpre_1 rfl (va_rf_c _)) rfl dX0_leastMean_122 ?_
                refine z_goto hX (tgt := 41) dX0_leastMean_125 rfl ?_
                exact ih2 (e + 1) f _ μ2 (by omega) (by omega) (by omega) hK2 hf hff2 hB2 hs _
              · rw [if_pos (by omega)] at hff2
                refine z_aload_n hX rfl (by first | rfl | exact va_rf_r _) dX0_leastMean_83 ?_
                refine z_iload_n hX rfl dX0_leastMean_84 ?_
                refine z_aaloadB hX (b := tb + 1 + i.toNat) dX0_leastMean_85 ht2 rfl (by omega) ?_
                refine z_aload hX rfl (by first | rfl | exact va_rf_r _) dX0_leastMean_86 ?_
                refine z_getN hX (C := RX2) (T := TX2) (N := 7) (ci := 2) rfl in_X2 1 (by decide) q343 (Or.inl rfl) dX0_leastMean_88 (by first | assumption | exact zu_s _ _ _ | exact zu_o (by assumption) (by assumption) | exact zu_o (by assumption) (zu_o (by assumption) (by assumption)) | exact (zu_o (by first | assumption | exact Ne.symm (by assumption)) (zu_s _ _ _)) | exact (zu_o (by first | assumption | exact Ne.symm (by assumption)) (by assumption)) | exact (zu_o (by first | assumption | exact Ne.symm (by assumption)) (zu_o (by first | assumption | exact Ne.symm (by assumption)) (zu_s _ _ _))) | exact (zu_o (by first | assumption | exact Ne.symm (by assumption)) (zu_o (by first | assumption | exact Ne.symm (by assumption)) (by assumption))) | exact (zu_o (by first | assumption | exact Ne.symm (by assumption)) (zu_o (by first | assumption | exact Ne.symm (by assumption)) (zu_o (by first | assumption | exact Ne.symm (by assumption)) (zu_s _ _ _)))) | exact (zu_o (by first | assumption | exact Ne.symm (by assumption)) (zu_o (by first | assumption | exact Ne.symm (by assumption)) (zu_o (by first | assumption | exact Ne.symm (by assumption)) (by assumption)))) | exact (zu_o (by first | assumption | exact Ne.symm (by assumption)) (zu_o (by first | assumption | exact Ne.symm (by assumption)) (zu_o (by first | assumption | exact Ne.symm (by assumption)) (zu_o (by first | assumption | exact Ne.symm (by assumption)) (zu_s _ _ _))))) | exact (zu_o (by first | assumption | exact Ne.symm (by assumption)) (zu_o (by first | assumption | exact Ne.symm (by assumption)) (zu_o (by first | assumption | exact Ne.symm (by assumption)) (zu_o (by first | assumption | exact Ne.symm (by assumption)) (by assumption))))) | exact AL.at (by assumption) | exact EL.at (by assumption) | exact LL.at (by assumption)) rfl ?_
                refine z_aload_n hX rfl (by first | rfl | exact va_rf_r _) dX0_leastMean_91 ?_
                refine z_iload_n hX rfl dX0_leastMean_92 ?_
                refine z_aaloadB hX (b := tb + 1 + i.toNat) dX0_leastMean_93 ht2 rfl (by omega) ?_
                refine z_aload hX rfl (by first | rfl | exact va_rf_r _) dX0_leastMean_94 ?_
                refine z_getN hX (C := RX2) (T := TX2) (N := 7) (ci := 2) rfl in_X2 1 (by decide) q343 (Or.inl rfl) dX0_leastMean_96 (by first | assumption | exact zu_s _ _ _ | exact zu_o (by assumption) (by assumption) | exact zu_o (by assumption) (zu_o (by assumption) (by assumption)) | exact (zu_o (by first | assumption | exact Ne.symm (by assumption)) (zu_s _ _ _)) | exact (zu_o (by first | assumption | exact Ne.symm (by assumption)) (by assumption)) | exact (zu_o (by first | assumption | exact Ne.symm (by assumption)) (zu_o (by first | assumption | exact Ne.symm (by assumption)) (zu_s _ _ _))) | exact (zu_o (by first | assumption | exact Ne.symm (by assumption)) (zu_o (by first | assumption | exact Ne.symm (by assumption)) (by assumption))) | exact (zu_o (by first | assumption | exact Ne.symm (by assumption)) (zu_o (by first | assumption | exact Ne.symm (by assumption)) (zu_o (by first | assumption | exact Ne.symm (by assumption)) (zu_s _ _ _)))) | exact (zu_o (by first | assumption | exact Ne.symm (by assumption)) (zu_o (by first | assumption | exact Ne.symm (by assumption)) (zu_o (by first | assumption | exact Ne.symm (by assumption)) (by assumption)))) | exact (zu_o (by first | assumption | exact Ne.symm (by assumption)) (zu_o (by first | assumption | exact Ne.symm (by assumption)) (zu_o (by first | assumption | exact Ne.symm (by assumption)) (zu_o (by first | assumption | exact Ne.symm (by assumption)) (zu_s _ _ _))))) | exact (zu_o (by first | assumption | exact Ne.symm (by assumption)) (zu_o (by first | assumption | exact Ne.symm (by assumption)) (zu_o (by first | assumption | exact Ne.symm (by assumption)) (zu_o (by first | assumption | exact Ne.symm (by assumption)) (by assumption))))) | exact AL.at (by assumption) | exact EL.at (by assumption) | exact LL.at (by assumption)) rfl ?_
                refine z_laload hX dX0_leastMean_99 (by first | assumption | exact zu_s _ _ _ | exact zu_o (by assumption) (by assumption) | exact zu_o (by assumption) (zu_o (by assumption) (by assumption)) | exact (zu_o (by first | assumption | exact Ne.symm (by assumption)) (zu_s _ _ _)) | exact (zu_o (by first | assumption | exact Ne.symm (by assumption)) (by assumption)) | exact (zu_o (by first | assumption | exact Ne.symm (by assumption)) (zu_o (by first | assumption | exact Ne.symm (by assumption)) (zu_s _ _ _))) | exact (zu_o (by first | assumption | exact Ne.symm (by assumption)) (zu_o (by first | assumption | exact Ne.symm (by assumption)) (by assumption))) | exact (zu_o (by first | assumption | exact Ne.symm (by assumption)) (zu_o (by first | assumption | exact Ne.symm (by assumption)) (zu_o (by first | assumption | exact Ne.symm (by assumption)) (zu_s _ _ _)))) | exact (zu_o (by first | assumption | exact Ne.symm (by assumption)) (zu_o (by first | assumption | exact Ne.symm (by assumption)) (zu_o (by first | assumption | exact Ne.symm (by assumption)) (by assumption)))) | exact (zu_o (by first | assumption | exact Ne.symm (by assumption)) (zu_o (by first | assumption | exact Ne.symm (by assumption)) (zu_o (by first | assumption | exact Ne.symm (by assumption)) (zu_o (by first | assumption | exact Ne.symm (by assumption)) (zu_s _ _ _))))) | exact (zu_o (by first | assumption | exact Ne.symm (by assumption)) (zu_o (by first | assumption | exact Ne.symm (by assumption)) (zu_o (by first | assumption | exact Ne.symm (by assumption)) (zu_o (by first | assumption | exact Ne.symm (by assumption)) (by assumption))))) | exact AL.at (by assumption) | exact EL.at (by assumption) | exact LL.at (by assumption)) (by omega) ?_
                refine z_aload_n hX rfl (by first | rfl | exact va_rf_r _) dX0_leastMean_100 ?_
                refine z_iload_n hX rfl dX0_leastMean_101 ?_
                refine z_iconst hX dX0_leastMean_102 ?_
                refine z_isub hX dX0_leastMean_103 ?_
                refine z_aaloadB hX (b := tb + 1 + (i - 1).toNat) dX0_leastMean_104 ht2 rfl (by omega) ?_
                refine z_aload hX rfl (by first | rfl | exact va_rf_r _) dX0_leastMean_105 ?_
                refine z_getN hX (C := RX2) (T := TX2) (N := 7) (ci := 2) rfl in_X2 0 (by decide) q338 (Or.inl rfl) dX0_leastMean_107 (by first | assumption | exact zu_s _ _ _ | exact zu_o (by assumption) (by assumption) | exact zu_o (by assumption) (zu_o (by assumption) (by assumption)) | exact (zu_o (by first | assumption | exact Ne.symm (by assumption)) (zu_s _ _ _)) | exact (zu_o (by first | assumption | exact Ne.symm (by assumption)) (by assumption)) | exact (zu_o (by first | assumption | exact Ne.symm (by assumption)) (zu_o (by first | assumption | exact Ne.symm (by assumption)) (zu_s _ _ _))) | exact (zu_o (by first | assumption | exact Ne.symm (by assumption)) (zu_o (by first | assumption | exact Ne.symm (by assumption)) (by assumption))) | exact (zu_o (by first | assumption | exact Ne.symm (by assumption)) (zu_o (by first | assumption | exact Ne.symm (by assumption)) (zu_o (by first | assumption | exact Ne.symm (by assumption)) (zu_s _ _ _)))) | exact (zu_o (by first | assumption | exact Ne.symm (by assumption)) (zu_o (by first | assumption | exact Ne.symm (by assumption)) (zu_o (by first | assumption | exact Ne.symm (by assumption)) (by assumption)))) | exact (zu_o (by first | assumption | exact Ne.symm (by assumption)) (zu_o (by first | assumption | exact Ne.symm (by assumption)) (zu_o (by first | assumption | exact Ne.symm (by assumption)) (zu_o (by first | assumption | exact Ne.symm (by assumption)) (zu_s _ _ _))))) | exact (zu_o (by first | assumption | exact Ne.symm (by assumption)) (zu_o (by first | assumption | exact Ne.symm (by assumption)) (zu_o (by first | assumption | exact Ne.symm (by assumption)) (zu_o (by first | assumption | exact Ne.symm (by assumption)) (by assumption))))) | exact AL.at (by assumption) | exact EL.at (by assumption) | exact LL.at (by assumption)) rfl ?_
                refine z_laload hX dX0_leastMean_110 (by first | assumption | exact zu_s _ _ _ | exact zu_o (by assumption) (by assumption) | exact zu_o (by assumption) (zu_o (by assumption) (by assumption)) | exact (zu_o (by first | assumption | exact Ne.symm (by assumption)) (zu_s _ _ _)) | exact (zu_o (by first | assumption | exact Ne.symm (by assumption)) (by assumption)) | exact (zu_o (by first | assumption | exact Ne.symm (by assumption)) (zu_o (by first | assumption | exact Ne.symm (by assumption)) (zu_s _ _ _))) | exact (zu_o (by first | assumption | exact Ne.symm (by assumption)) (zu_o (by first | assumption | exact Ne.symm (by assumption)) (by assumption))) | exact (zu_o (by first | assumption | exact Ne.symm (by assumption)) (zu_o (by first | assumption | exact Ne.symm (by assumption)) (zu_o (by first | assumption | exact Ne.symm (by assumption)) (zu_s _ _ _)))) | exact (zu_o (by first | assumption | exact Ne.symm (by assumption)) (zu_o (by first | assumption | exact Ne.symm (by assumption)) (zu_o (by first | assumption | exact Ne.symm (by assumption)) (by assumption)))) | exact (zu_o (by first | assumption | exact Ne.symm (by assumption)) (zu_o (by first | assumption | exact Ne.symm (by assumption)) (zu_o (by first | assumption | exact Ne.symm (by assumption)) (zu_o (by first | assumption | exact Ne.symm (by assumption)) (zu_s _ _ _))))) | exact (zu_o (by first | assumption | exact Ne.symm (by assumption)) (zu_o (by first | assumption | exact Ne.symm (by assumption)) (zu_o (by first | assumption | exact Ne.symm (by assumption)) (zu_o (by first | assumption | exact Ne.symm (by assumption)) (by assumption))))) | exact AL.at (by assumption) | exact EL.at (by assumption) | exact LL.at (by assumption)) (by omega) ?_
                refine z_aload hX rfl (by first | rfl | exact va_rf_r _) dX0_leastMean_111 ?_
                refine z_getN hX (C := RX2) (T := TX2) (N := 7) (ci := 2) rfl in_X2 2 (by decide) q347 (Or.inl rfl) dX0_leastMean_113 (by first | assumption | exact zu_s _ _ _ | exact zu_o (by assumption) (by assumption) | exact zu_o (by assumption) (zu_o (by assumption) (by assumption)) | exact (zu_o (by first | assumption | exact Ne.symm (by assumption)) (zu_s _ _ _)) | exact (zu_o (by first | assumption | exact Ne.symm (by assumption)) (by assumption)) | exact (zu_o (by first | assumption | exact Ne.symm (by assumption)) (zu_o (by first | assumption | exact Ne.symm (by assumption)) (zu_s _ _ _))) | exact (zu_o (by first | assumption | exact Ne.symm (by assumption)) (zu_o (by first | assumption | exact Ne.symm (by assumption)) (by assumption))) | exact (zu_o (by first | assumption | exact Ne.symm (by assumption)) (zu_o (by first | assumption | exact Ne.symm (by assumption)) (zu_o (by first | assumption | exact Ne.symm (by assumption)) (zu_s _ _ _)))) | exact (zu_o (by first | assumption | exact Ne.symm (by assumption)) (zu_o (by first | assumption | exact Ne.symm (by assumption)) (zu_o (by first | assumption | exact Ne.symm (by assumption)) (by assumption)))) | exact (zu_o (by first | assumption | exact Ne.symm (by assumption)) (zu_o (by first | assumption | exact Ne.symm (by assumption)) (zu_o (by first | assumption | exact Ne.symm (by assumption)) (zu_o (by first | assumption | exact Ne.symm (by assumption)) (zu_s _ _ _))))) | exact (zu_o (by first | assumption | exact Ne.symm (by assumption)) (zu_o (by first | assumption | exact Ne.symm (by assumption)) (zu_o (by first | assumption | exact Ne.symm (by assumption)) (zu_o (by first | assumption | exact Ne.symm (by assumption)) (by assumption))))) | exact AL.at (by assumption) | exact EL.at (by assumption) | exact LL.at (by assumption)) rfl ?_
                refine z_i2l hX (by omega) dX0_leastMean_116 ?_
                refine z_ladd hX dX0_leastMean_117 ?_
                refine z_calll (z_runS hX (x_minl _ _ _ (by unfold lR; omega) (by unfold lR; omega)) (va_cwS 2 hX.ts (lw_S q667 q668 q75 q669) rfl rfl rfl (by decide +kernel) (zroom (by decide) (by decide))) dX0_leastMean_118 rfl rfl rfl (by first | exact Nat.le_of_ble_eq_true rfl | simp [va_rf_c, Value.category]) (zhf (by omega) (by omega))) (fun r_118 μ_118 h_118 => ?_)
                obtain ⟨rfl, rfl⟩ := h_118
                refine z_lastore hX dX0_leastMean_121 (by first | assumption | exact zu_s _ _ _ | exact zu_o (by assumption) (by assumption) | exact zu_o (by assumption) (zu_o (by assumption) (by assumption)) | exact (zu_o (by first | assumption | exact Ne.symm (by assumption)) (zu_s _ _ _)) | exact (zu_o (by first | assumption | exact Ne.symm (by assumption)) (by assumption)) | exact (zu_o (by first | assumption | exact Ne.symm (by assumption)) (zu_o (by first | assumption | exact Ne.symm (by assumption)) (zu_s _ _ _))) | exact (zu_o (by first | assumption | exact Ne.symm (by assumption)) (zu_o (by first | assumption | exact Ne.symm (by assumption)) (by assumption))) | exact (zu_o (by first | assumption | exact Ne.symm (by assumption)) (zu_o (by first | assumption | exact Ne.symm (by assumption)) (zu_o (by first | assumption | exact Ne.symm (by assumption)) (zu_s _ _ _)))) | exact (zu_o (by first | assumption | exact Ne.symm (by assumption)) (zu_o (by first | assumption | exact Ne.symm (by assumption)) (zu_o (by first | assumption | exact Ne.symm (by assumption)) (by assumption)))) | exact (zu_o (by first | assumption | exact Ne.symm (by assumption)) (zu_o (by first | assumption | exact Ne.symm (by assumption)) (zu_o (by first | assumption | exact Ne.symm (by assumption)) (zu_o (by first | assumption | exact Ne.symm (by assumption)) (zu_s _ _ _))))) | exact (zu_o (by first | assumption | exact Ne.symm (by assumption)) (zu_o (by first | assumption | exact Ne.symm (by assumption)) (zu_o (by first | assumption | exact Ne.symm (by assumption)) (zu_o (by first | assumption | exact Ne.symm (by assumption)) (by assumption))))) | exact AL.at (by assumption) | exact EL.at (by assumption) | exact LL.at (by assumption)) (by omega) ?_
                refine z_iinc hX (lv' := [_, _, _, _, _]) rfl (Nat.le_of_ble_eq_true rfl) (by first | exact zpre_0 | exact zpre_n rfl | exact zpre_1 rfl rfl | exact zpre_1 rfl (va_rf_c _)) rfl dX0_leastMean_122 ?_
                refine z_goto hX (tgt := 41) dX0_leastMean_125 rfl ?_
                exact ih2 (e + 1) _ _ _ (by omega) (by omega) (by omega) (hK2.put (by omega) _) (zu_s _ _ _) hff2 hB2 hs _
        have fill : ∀ (m : Nat) (v : Int) (f : Int → Int) (μ2 : zM), 0 ≤ v → v ≤ 8 → 8 < v + m → KT E a μ μ2 tb i → μ2 (tb + 1 + i.toNat) = some (zaj E 8 f) → (∀ u, 0 ≤ u → u < v → f u = 1125899906842624) → zW X (zR 4 74 209) E (μ2) 10 81 Q 19 [some (.ref x), some (.ref tb), some (.int (zI i)), some (.int (zI v)), none] [] := by
          intro m
          induction m with
          | zero => intros; exfalso; omega
          | succ m ih2 =>
            intro v f μ2 v0 v1 hm hK2 hf hv
            have hz : kT a i.toNat = (er 0 (a 112)).foldl (kE a (kT a (i - 1).toNat)) (fun _ => 1125899906842624) := by
              rw [show i.toNat = (i - 1).toNat + 1 by omega]
              rfl
            refine z_iload_n hX rfl dX0_leastMean_19 ?_
            refine z_bipush hX (by decide) dX0_leastMean_20 ?_
            refine z_icmp_ge hX (by omega) (by omega) dX0_leastMean_22 (tgt := 39) rfl (fun h_22 => ?_) (fun h_22 => ?_)
            · obtain rfl : v = 8 := by omega
              refine z_iconst hX dX0_leastMean_39 ?_
              refine z_istore_n hX (lv' := [_, _, _, _, _]) (Nat.le_of_ble_eq_true rfl) (by first | exact zpre_0 | exact zpre_n rfl | exact zpre_1 rfl rfl | exact zpre_1 rfl (va_rf_c _)) rfl dX0_leastMean_40 ?_
              exact edges ((a 112).toNat + 1) 0 f (fun _ => 1125899906842624) μ2 (by omega) (by omega) (by omega) hK2 hf (fun u u0 u7 => hv u u0 (by omega)) (fun u _ _ => Or.inl rfl) hz.symm none
            · refine z_aload_n hX rfl (by first | rfl | exact va_rf_r _) dX0_leastMean_25 ?_
              refine z_iload_n hX rfl dX0_leastMean_26 ?_
              refine z_aaloadB hX (b := tb + 1 + i.toNat) dX0_leastMean_27 hK2.2.2.1 rfl (by omega) ?_
              refine z_iload_n hX rfl dX0_leastMean_28 ?_
              refine z_ldc2_w hX (z := 1125899906842624) q666 (by decide) dX0_leastMean_29 ?_
              refine z_lastore hX dX0_leastMean_32 (by first | assumption | exact zu_s _ _ _ | exact zu_o (by assumption) (by assumption) | exact zu_o (by assumption) (zu_o (by assumption) (by assumption)) | exact (zu_o (by first | assumption | exact Ne.symm (by assumption)) (zu_s _ _ _)) | exact (zu_o (by first | assumption | exact Ne.symm (by assumption)) (by assumption)) | exact (zu_o (by first | assumption | exact Ne.symm (by assumption)) (zu_o (by first | assumption | exact Ne.symm (by assumption)) (zu_s _ _ _))) | exact (zu_o (by first | assumption | exact Ne.symm (by assumption)) (zu_o (by first | assumption | exact Ne.symm (by assumption)) (by assumption))) | exact (zu_o (by first | assumption | exact Ne.symm (by assumption)) (zu_o (by first | assumption | exact Ne.symm (by assumption)) (zu_o (by first | assumption | exact Ne.symm (by assumption)) (zu_s _ _ _)))) | exact (zu_o (by first | assumption | exact Ne.symm (by assumption)) (zu_o (by first | assumption | exact Ne.symm (by assumption)) (zu_o (by first | assumption | exact Ne.symm (by assumption)) (by assumption)))) | exact (zu_o (by first | assumption | exact Ne.symm (by assumption)) (zu_o (by first | assumption | exact Ne.symm (by assumption)) (zu_o (by first | assumption | exact Ne.symm (by assumption)) (zu_o (by first | assumption | exact Ne.symm (by assumption)) (zu_s _ _ _))))) | exact (zu_o (by first | assumption | exact Ne.symm (by assumption)) (zu_o (by first | assumption | exact Ne.symm (by assumption)) (zu_o (by first | assumption | exact Ne.symm (by assumption)) (zu_o (by first | assumption | exact Ne.symm (by assumption)) (by assumption))))) | exact AL.at (by assumption) | exact EL.at (by assumption) | exact LL.at (by assumption)) (by omega) ?_
              refine z_iinc hX (lv' := [_, _, _, _, _]) rfl (Nat.le_of_ble_eq_true rfl) (by first | exact zpre_0 | exact zpre_n rfl | exact zpre_1 rfl rfl | exact zpre_1 rfl (va_rf_c _)) rfl dX0_leastMean_33 ?_
              refine z_goto hX (tgt := 19) dX0_leastMean_36 rfl ?_
              exact ih2 (v + 1) _ _ (by omega) (by omega) (by omega) (hK2.put (by omega) _) (zu_s _ _ _) (fun u u0 u1 => by
                by_cases q : u = v
                · rw [q, zf_s]
                · rw [zf_n q]; exact hv u u0 (by omega))
        obtain ⟨f, hf, -⟩ := hK.2.2.2 i (by omega) (by omega)
        refine z_iconst hX dX0_leastMean_17 ?_
        refine z_istore_n hX (lv' := [_, _, _, _, _]) (Nat.le_of_ble_eq_true rfl) (by first | exact zpre_0 | exact zpre_n rfl | exact zpre_1 rfl rfl | exact zpre_1 rfl (va_rf_c _)) rfl dX0_leastMean_18 ?_
        exact fill 9 0 f μ1 (by omega) (by omega) (by omega) hK hf (fun u u0 u1 => by omega)
  refine z_iconst hX dX0_leastMean_9 ?_
  refine z_istore_n hX (lv' := [_, _, _, _, _]) (Nat.le_of_ble_eq_true rfl) (by first | exact zpre_0 | exact zpre_n rfl | exact zpre_1 rfl rfl | exact zpre_1 rfl (va_rf_c _)) rfl dX0_leastMean_10 ?_
  exact outer 9 1 _ (by omega) (by omega) (by omega) (KT.new hnew) none none
