/-! X SIDE 45: a whole text is read -/
set_option maxRecDepth 100000
theorem rdL_f {L : Int} {Y : Int → Int} {q : pSt} (h : q.2 ≠ -1000001) : ∀ (n : Nat) (k : Int) (F : Int → Int), (rdL L Y n k q F).2.1.2 = q.2
  | 0, _, _ => rfl
  | n + 1, k, F => by
    rw [rdL, if_neg (fun z => h z.1)]
theorem rdZ_v (F : Int → Int) (b v0 v1 v2 v4 v3 v5 v6 : Int) : rdZ F b v0 v1 v2 v4 v3 v5 v6 (b + 0) = v0 ∧ rdZ F b v0 v1 v2 v4 v3 v5 v6 (b + 1) = v1 ∧ rdZ F b v0 v1 v2 v4 v3 v5 v6 (b + 2) = v2 ∧ rdZ F b v0 v1 v2 v4 v3 v5 v6 (b + 3) = v3 ∧ rdZ F b v0 v1 v2 v4 v3 v5 v6 (b + 4) = v4 ∧ rdZ F b v0 v1 v2 v4 v3 v5 v6 (b + 5) = v5 ∧ rdZ F b v0 v1 v2 v4 v3 v5 v6 (b + 6) = v6 := by
  unfold rdZ
  refine ⟨?_, ?_, ?_, ?_, ?_, ?_, ?_⟩
  · rw [Int.add_zero, zf_n (by omega), zf_n (by omega), zf_n (by omega), zf_n (by omega), zf_n (by omega), zf_n (by omega), zf_s]
  · rw [zf_n (by omega), zf_n (by omega), zf_n (by omega), zf_n (by omega), zf_n (by omega), zf_s]
  · rw [zf_n (by omega), zf_n (by omega), zf_n (by omega), zf_n (by omega), zf_s]
  · rw [zf_n (by omega), zf_n (by omega), zf_s]
  · rw [zf_n (by omega), zf_n (by omega), zf_n (by omega), zf_s]
  · rw [zf_n (by omega), zf_s]
  · rw [zf_s]
theorem rdZ_o {F : Int → Int} {b v0 v1 v2 v4 v3 v5 v6 j : Int} (h : j < b ∨ b + 6 < j) : rdZ F b v0 v1 v2 v4 v3 v5 v6 j = F j := by
  unfold rdZ
  rw [zf_n (by omega), zf_n (by omega), zf_n (by omega), zf_n (by omega), zf_n (by omega), zf_n (by omega), zf_n (by omega)]
theorem zed_eq {g h : Int → Int} (e : ∀ j, 0 ≤ j → j ≤ 6 → g j = h j) : zed g = zed h := by
  unfold zed
  rw [e 0 (by omega) (by omega), e 1 (by omega) (by omega), e 2 (by omega) (by omega), e 3 (by omega) (by omega), e 4 (by omega) (by omega), e 5 (by omega) (by omega), e 6 (by omega) (by omega)]
/-- the edges read so far -/
def RL (μ : zM) (rs : List Nat) (F : Int → Int) : Prop := ∀ i : Nat, i < rs.length → ∃ r, rs[i]? = some r ∧ μ r = some (zed (fun j => F (7 * (i : Int) + j)))
theorem x_read (l : Launch) (E : zE) {μ0 μ : zM} (k0 : zKp μ0 μ) {g rl x tx arr : Nat} (hg0 : μ0 g = none) (hl0 : μ0 rl = none) (ha0 : μ0 arr = none) {L : Int} {Y : Int → Int} {p : Int} (h : RD E μ g rl x tx L Y p) (hx0 : μ0 x ≠ none) (htx0 : μ0 tx ≠ none) (hp : 0 ≤ p ∧ p ≤ L) (hA : AL E μ rl arr 16 []) (F : Int → Int) : zyMet l yX3_read (ws_ yX3_read cX3_read 1 (some (.object "java/util/ArrayList"))) (zR 9 420 2800) (va_Pc [.ref g] (zPre E μ)) (zQq E (fun r μ' => (rdL L Y 17 0 (p, -1000001) F).2.1.2 = -1000001 ∧ some rl = r ∧ (∃ arr' rs, AL E μ' rl arr' 16 rs ∧ μ0 arr' = none ∧ (rs.length : Int) = (rdL L Y 17 0 (p, -1000001) F).1 ∧ RL μ' rs (rdL L Y 17 0 (p, -1000001) F).2.2) ∧ zKp μ0 μ')) E (fun q μ' => ∃ w, (0 ≤ w ∧ w ≤ L) ∧ (rdL L Y 17 0 (p, -1000001) F).2.1.2 = w ∧ μ' q = some (zTF w) ∧ zKp μ0 μ') 420 2800 := by
  have hL := h.2.2.2.1
  have hY := h.2.2.2
  obtain ⟨ex, hx1⟩ : ∃ e, μ0 x = some e := by
    cases hh : μ0 x with
    | none => exact absurd hh hx0
    | some e => exact ⟨e, rfl⟩
  obtain ⟨et, htx1⟩ : ∃ e, μ0 tx = some e := by
    cases hh : μ0 tx with
    | none => exact absurd hh htx0
    | some e => exact ⟨e, rfl⟩
  obtain ⟨hgg, ⟨Lp, h', mk, fo, pc, hs0, hxx⟩, htt, -⟩ := h
  have exx : ex = zx0 Lp h' mk tx L fo pc hs0 := Option.some.inj ((k0 _ _ hx1).symm.trans hxx)
  have ett : et = zab E 150 Y := Option.some.inj ((k0 _ _ htx1).symm.trans htt)
  subst exx
  subst ett
  generalize hR : rdL L Y 17 0 (p, -1000001) F = R
  refine zymet (cc := cX3_read) [_] (by decide) (Nat.le_of_ble_eq_true rfl) rfl rfl ?_
  intro X hl hX ht; subst hl
  have hX : zOK X _ cX3_read RX3 (some (.object "java/util/ArrayList")) 1 := hX
  generalize hQ : zyMQ _ _ _ _ _ _ = Q
  have loop : ∀ (n : Nat) (k : Int) (pp : Int) (F1 : Int → Int) (μ1 : zM) (arr1 : Nat) (rs : List Nat) (ce sl : Nat), 17 ≤ k + n → zKp μ0 μ1 → μ1 g = some (zrd pp rl x) → (0 ≤ pp ∧ pp ≤ L) → AL E μ1 rl arr1 16 rs → μ0 arr1 = none → (rs.length : Int) = k → k ≤ 16 → RL μ1 rs F1 → rdL L Y n k (pp, -1000001) F1 = R → (ce : Int) ≤ 24 * k → (sl : Int) ≤ 160 * k → zW X (zR 9 420 2800) E (μ1) ce sl Q 0 [some (.ref g)] [] := by
    intro n
    induction n with
    | zero => intros; exfalso; omega
    | succ n ih =>
      intro k pp F1 μ1 arr1 rs ce sl hkn hk hg hpp hA1 hb0 hlen hk16 hRL hs hce hsl
      have hx2 := hk _ _ hx1
      have ht2 := hk _ _ htx1
      have hRd : RD E μ1 g rl x tx L Y pp := ⟨hg, ⟨Lp, h', mk, fo, pc, hs0, hx2⟩, ht2, hY⟩
      rw [rdL] at hs
      refine z_aload_n hX rfl (by first | rfl | exact va_rf_r _) dX3_read_0 ?_
      refine z_get hX (C := RX3) (T := TX3) (N := 3) (ci := 3) rfl in_X3 0 (by decide) q528 (Or.inl rfl) dX3_read_1 (by first | assumption | exact zu_s _ _ _ | exact zu_o (by assumption) (by assumption) | exact zu_o (by assumption) (zu_o (by assumption) (by assumption)) | exact (zu_o (by first | assumption | exact Ne.symm (by assumption)) (zu_s _ _ _)) | exact (zu_o (by first | assumption | exact Ne.symm (by assumption)) (by assumption)) | exact (zu_o (by first | assumption | exact Ne.symm (by assumption)) (zu_o (by first | assumption | exact Ne.symm (by assumption)) (zu_s _ _ _))) | exact (zu_o (by first | assumption | exact Ne.symm (by assumption)) (zu_o (by first | assumption | exact Ne.symm (by assumption)) (by assumption))) | exact (zu_o (by first | assumption | exact Ne.symm (by assumption)) (zu_o (by first | assumption | exact Ne.symm (by assumption)) (zu_o (by first | assumption | exact Ne.symm (by assumption)) (zu_s _ _ _)))) | exact (zu_o (by first | assumption | exact Ne.symm (by assumption)) (zu_o (by first | assumption | exact Ne.symm (by assumption)) (zu_o (by first | assumption | exact Ne.symm (by assumption)) (by assumption)))) | exact (zu_o (by first | assumption | exact Ne.symm (by assumption)) (zu_o (by first | assumption | exact Ne.symm (by assumption)) (zu_o (by first | assumption | exact Ne.symm (by assumption)) (zu_o (by first | assumption | exact Ne.symm (by assumption)) (zu_s _ _ _))))) | exact (zu_o (by first | assumption | exact Ne.symm (by assumption)) (zu_o (by first | assumption | exact Ne.symm (by assumption)) (zu_o (by first | assumption | exact Ne.symm (by assumption)) (zu_o (by first | assumption | exact Ne.symm (by assumption)) (by assumption))))) | exact AL.at (by assumption) | exact EL.at (by assumption) | exact LL.at (by assumption)) rfl ?_
      refine z_aload_n hX rfl (by first | rfl | exact va_rf_r _) dX3_read_4 ?_
      refine z_get hX (C := RX3) (T := TX3) (N := 3) (ci := 3) rfl in_X3 2 (by decide) q530 (Or.inl rfl) dX3_read_5 (by first | assumption | exact zu_s _ _ _ | exact zu_o (by assumption) (by assumption) | exact zu_o (by assumption) (zu_o (by assumption) (by assumption)) | exact (zu_o (by first | assumption | exact Ne.symm (by assumption)) (zu_s _ _ _)) | exact (zu_o (by first | assumption | exact Ne.symm (by assumption)) (by assumption)) | exact (zu_o (by first | assumption | exact Ne.symm (by assumption)) (zu_o (by first | assumption | exact Ne.symm (by assumption)) (zu_s _ _ _))) | exact (zu_o (by first | assumption | exact Ne.symm (by assumption)) (zu_o (by first | assumption | exact Ne.symm (by assumption)) (by assumption))) | exact (zu_o (by first | assumption | exact Ne.symm (by assumption)) (zu_o (by first | assumption | exact Ne.symm (by assumption)) (zu_o (by first | assumption | exact Ne.symm (by assumption)) (zu_s _ _ _)))) | exact (zu_o (by first | assumption | exact Ne.symm (by assumption)) (zu_o (by first | assumption | exact Ne.symm (by assumption)) (zu_o (by first | assumption | exact Ne.symm (by assumption)) (by assumption)))) | exact (zu_o (by first | assumption | exact Ne.symm (by assumption)) (zu_o (by first | assumption | exact Ne.symm (by assumption)) (zu_o (by first | assumption | exact Ne.symm (by assumption)) (zu_o (by first | assumption | exact Ne.symm (by assumption)) (zu_s _ _ _))))) | exact (zu_o (by first | assumption | exact Ne.symm (by assumption)) (zu_o (by first | assumption | exact Ne.symm (by assumption)) (zu_o (by first | assumption | exact Ne.symm (by assumption)) (zu_o (by first | assumption | exact Ne.symm (by assumption)) (by assumption))))) | exact AL.at (by assumption) | exact EL.at (by assumption) | exact LL.at (by assumption)) rfl ?_
      refine z_getN hX (C := RX0) (T := TX0) (N := 8) (ci := 0) rfl in_X0 4 (by decide) q165 (Or.inl rfl) dX3_read_8 (by first | assumption | exact zu_s _ _ _ | exact zu_o (by assumption) (by assumption) | exact zu_o (by assumption) (zu_o (by assumption) (by assumption)) | exact (zu_o (by first | assumption | exact Ne.symm (by assumption)) (zu_s _ _ _)) | exact (zu_o (by first | assumption | exact Ne.symm (by assumption)) (by assumption)) | exact (zu_o (by first | assumption | exact Ne.symm (by assumption)) (zu_o (by first | assumption | exact Ne.symm (by assumption)) (zu_s _ _ _))) | exact (zu_o (by first | assumption | exact Ne.symm (by assumption)) (zu_o (by first | assumption | exact Ne.symm (by assumption)) (by assumption))) | exact (zu_o (by first | assumption | exact Ne.symm (by assumption)) (zu_o (by first | assumption | exact Ne.symm (by assumption)) (zu_o (by first | assumption | exact Ne.symm (by assumption)) (zu_s _ _ _)))) | exact (zu_o (by first | assumption | exact Ne.symm (by assumption)) (zu_o (by first | assumption | exact Ne.symm (by assumption)) (zu_o (by first | assumption | exact Ne.symm (by assumption)) (by assumption)))) | exact (zu_o (by first | assumption | exact Ne.symm (by assumption)) (zu_o (by first | assumption | exact Ne.symm (by assumption)) (zu_o (by first | assumption | exact Ne.symm (by assumption)) (zu_o (by first | assumption | exact Ne.symm (by assumption)) (zu_s _ _ _))))) | exact (zu_o (by first | assumption | exact Ne.symm (by assumption)) (zu_o (by first | assumption | exact Ne.symm (by assumption)) (zu_o (by first | assumption | exact Ne.symm (by assumption)) (zu_o (by first | assumption | exact Ne.symm (by assumption)) (by assumption))))) | exact AL.at (by assumption) | exact EL.at (by assumption) | exact LL.at (by assumption)) rfl ?_
      refine z_icmp_ge hX (by omega) (by omega) dX3_read_11 (tgt := 29) rfl (fun h_11 => ?_) (fun h_11 => ?_)
      · rw [if_neg (fun z => by have := z.2; dsimp only at this; omega)] at hs
        subst hs
        refine z_aload_n hX rfl (by first | rfl | exact va_rf_r _) dX3_read_29 ?_
        refine z_get hX (C := RX3) (T := TX3) (N := 3) (ci := 3) rfl in_X3 1 (by decide) q529 (Or.inl rfl) dX3_read_30 (by first | assumption | exact zu_s _ _ _ | exact zu_o (by assumption) (by assumption) | exact zu_o (by assumption) (zu_o (by assumption) (by assumption)) | exact (zu_o (by first | assumption | exact Ne.symm (by assumption)) (zu_s _ _ _)) | exact (zu_o (by first | assumption | exact Ne.symm (by assumption)) (by assumption)) | exact (zu_o (by first | assumption | exact Ne.symm (by assumption)) (zu_o (by first | assumption | exact Ne.symm (by assumption)) (zu_s _ _ _))) | exact (zu_o (by first | assumption | exact Ne.symm (by assumption)) (zu_o (by first | assumption | exact Ne.symm (by assumption)) (by assumption))) | exact (zu_o (by first | assumption | exact Ne.symm (by assumption)) (zu_o (by first | assumption | exact Ne.symm (by assumption)) (zu_o (by first | assumption | exact Ne.symm (by assumption)) (zu_s _ _ _)))) | exact (zu_o (by first | assumption | exact Ne.symm (by assumption)) (zu_o (by first | assumption | exact Ne.symm (by assumption)) (zu_o (by first | assumption | exact Ne.symm (by assumption)) (by assumption)))) | exact (zu_o (by first | assumption | exact Ne.symm (by assumption)) (zu_o (by first | assumption | exact Ne.symm (by assumption)) (zu_o (by first | assumption | exact Ne.symm (by assumption)) (zu_o (by first | assumption | exact Ne.symm (by assumption)) (zu_s _ _ _))))) | exact (zu_o (by first | assumption | exact Ne.symm (by assumption)) (zu_o (by first | assumption | exact Ne.symm (by assumption)) (zu_o (by first | assumption | exact Ne.symm (by assumption)) (zu_o (by first | assumption | exact Ne.symm (by assumption)) (by assumption))))) | exact AL.at (by assumption) | exact EL.at (by assumption) | exact LL.at (by assumption)) rfl ?_
        (try rw [← hQ])
        (try refine zyret ?_)
        first | refine z_areturn hX (r := some _) rfl (by first | exact Or.inl ⟨_, rfl⟩ | exact Or.inr ⟨_, rfl⟩) dX3_read_33 (by omega) (by omega) ?_ | refine z_areturn hX (r := none) rfl (by first | exact Or.inl ⟨_, rfl⟩ | exact Or.inr ⟨_, rfl⟩) dX3_read_33 (by omega) (by omega) ?_ | refine z_areturn hX rfl (by first | exact Or.inl ⟨_, rfl⟩ | exact Or.inr ⟨_, rfl⟩) dX3_read_33 (by omega) (by omega) ?_
        exact ⟨rfl, rfl, ⟨arr1, rs, hA1, hb0, hlen, hRL⟩, hk⟩
      · have hlt : pp < L := by omega
        rw [if_pos ⟨rfl, hlt⟩] at hs
        have kg : ∀ {μ2}, zKx [g] μ1 μ2 → zKp μ0 μ2 := fun {μ2} k2 z e hz => k2 z e (hk z e hz) (by simpa using zne hz hg0)
        have kx : ∀ (q : Nat) (μ' : zM), (∃ w, (0 ≤ w ∧ w ≤ L) ∧ ((rs.length = 16 ∧ w = pp) ∨ (rs.length < 16 ∧ (rdF L Y (pp, -1000001)).2.2 = w)) ∧ μ' q = some (zTF w) ∧ zKx [g] μ1 μ') → zyW X (zR 9 420 2800) E μ' (ce + 24) (sl + 160) Q 19 [some (.ref g)] q := fun q μ' hx => by
          obtain ⟨w, w1, w2, w3, w4⟩ := hx
          rw [← hQ]
          refine zyout hX ht w3 ⟨w, w1, ?_, w3, kg w4⟩ (by omega) (by omega)
          rcases w2 with ⟨e1, e2⟩ | ⟨e1, e2⟩
          · rw [if_pos (by omega)] at hs
            rw [← hs, e2]
            rfl
          · rw [if_neg (by omega)] at hs
            rw [← hs, rdL_f (by rw [e2]; omega), e2]
        obtain ⟨el, el1, el2⟩ := hA1.k17
        obtain ⟨ea, ea1, ea2⟩ := hA1.k104
        have nlg : rl ≠ g := zkne el1 hg (by rw [el2]; show (17 : Nat) ≠ 3; decide)
        have nag : arr1 ≠ g := zkne ea1 hg (by rw [ea2]; show (104 : Nat) ≠ 3; decide)
        refine z_aload_n hX rfl (by first | rfl | exact va_rf_r _) dX3_read_14 ?_
        refine z_get hX (C := RX3) (T := TX3) (N := 3) (ci := 3) rfl in_X3 1 (by decide) q529 (Or.inl rfl) dX3_read_15 (by first | assumption | exact zu_s _ _ _ | exact zu_o (by assumption) (by assumption) | exact zu_o (by assumption) (zu_o (by assumption) (by assumption)) | exact (zu_o (by first | assumption | exact Ne.symm (by assumption)) (zu_s _ _ _)) | exact (zu_o (by first | assumption | exact Ne.symm (by assumption)) (by assumption)) | exact (zu_o (by first | assumption | exact Ne.symm (by assumption)) (zu_o (by first | assumption | exact Ne.symm (by assumption)) (zu_s _ _ _))) | exact (zu_o (by first | assumption | exact Ne.symm (by assumption)) (zu_o (by first | assumption | exact Ne.symm (by assumption)) (by assumption))) | exact (zu_o (by first | assumption | exact Ne.symm (by assumption)) (zu_o (by first | assumption | exact Ne.symm (by assumption)) (zu_o (by first | assumption | exact Ne.symm (by assumption)) (zu_s _ _ _)))) | exact (zu_o (by first | assumption | exact Ne.symm (by assumption)) (zu_o (by first | assumption | exact Ne.symm (by assumption)) (zu_o (by first | assumption | exact Ne.symm (by assumption)) (by assumption)))) | exact (zu_o (by first | assumption | exact Ne.symm (by assumption)) (zu_o (by first | assumption | exact Ne.symm (by assumption)) (zu_o (by first | assumption | exact Ne.symm (by assumption)) (zu_o (by first | assumption | exact Ne.symm (by assumption)) (zu_s _ _ _))))) | exact (zu_o (by first | assumption | exact Ne.symm (by assumption)) (zu_o (by first | assumption | exact Ne.symm (by assumption)) (zu_o (by first | assumption | exact Ne.symm (by assumption)) (zu_o (by first | assumption | exact Ne.symm (by assumption)) (by assumption))))) | exact AL.at (by assumption) | exact EL.at (by assumption) | exact LL.at (by assumption)) rfl ?_
        refine z_aload_n hX rfl (by first | rfl | exact va_rf_r _) dX3_read_18 ?_
        refine zy_cq (zy_rV hX (x_rdEdge _ _ hRd hpp hA1 (by omega)) (cwV 0 hX.ts (lw_V q542 q544 qs10 q80 q545) rfl rfl rfl (by decide +kernel) (zroom (by decide) (by decide))) dX3_read_19 (by first | assumption | exact zu_s _ _ _ | exact zu_o (by assumption) (by assumption) | exact zu_o (by assumption) (zu_o (by assumption) (by assumption)) | exact (zu_o (by first | assumption | exact Ne.symm (by assumption)) (zu_s _ _ _)) | exact (zu_o (by first | assumption | exact Ne.symm (by assumption)) (by assumption)) | exact (zu_o (by first | assumption | exact Ne.symm (by assumption)) (zu_o (by first | assumption | exact Ne.symm (by assumption)) (zu_s _ _ _))) | exact (zu_o (by first | assumption | exact Ne.symm (by assumption)) (zu_o (by first | assumption | exact Ne.symm (by assumption)) (by assumption))) | exact (zu_o (by first | assumption | exact Ne.symm (by assumption)) (zu_o (by first | assumption | exact Ne.symm (by assumption)) (zu_o (by first | assumption | exact Ne.symm (by assumption)) (zu_s _ _ _)))) | exact (zu_o (by first | assumption | exact Ne.symm (by assumption)) (zu_o (by first | assumption | exact Ne.symm (by assumption)) (zu_o (by first | assumption | exact Ne.symm (by assumption)) (by assumption)))) | exact (zu_o (by first | assumption | exact Ne.symm (by assumption)) (zu_o (by first | assumption | exact Ne.symm (by assumption)) (zu_o (by first | assumption | exact Ne.symm (by assumption)) (zu_o (by first | assumption | exact Ne.symm (by assumption)) (zu_s _ _ _))))) | exact (zu_o (by first | assumption | exact Ne.symm (by assumption)) (zu_o (by first | assumption | exact Ne.symm (by assumption)) (zu_o (by first | assumption | exact Ne.symm (by assumption)) (zu_o (by first | assumption | exact Ne.symm (by assumption)) (by assumption))))) | exact AL.at (by assumption) | exact EL.at (by assumption) | exact LL.at (by assumption)) (ci := 3) rfl rfl rfl rfl (by first | exact Nat.le_of_ble_eq_true rfl | simp [va_rf_c, Value.category]) (zhf (by omega) (by omega))) kx (fun r_19 μ_19 h_19 => ?_)
        obtain ⟨h16, hv, ⟨b, gd, rfl, hbn, hb, hgd⟩, hk2, hg2⟩ := h_19
        rw [if_neg (by omega)] at hs
        have hA2 := hA1.monox hk2 (by simpa using nlg) (by simpa using nag)
        obtain ⟨el', el1', el2'⟩ := hA2.k17
        obtain ⟨ea', ea1', ea2'⟩ := hA2.k104
        have hbl : b ≠ rl := zkne hb el1' (by rw [el2']; show (2 : Nat) ≠ 17; decide)
        have hbz : μ_19 b = some (zob 2 [.int (zI (gd 0)), .int (zI (gd 1)), .int (zI (gd 2)), .int (zI (gd 3)), .int (zI (gd 4)), .int (zI (gd 5)), .int (zI (gd 6))]) := hb
        have hadd := x_add (zXl X) E hA2 (c' := 16) (mc := 0) (ms := 0) (ci := 2) (C := RX2) (T := TX2) (N := 7) rfl q1800 hbz hbl (fun _ _ _ hc => absurd hc (by omega))
        refine z_callb (z_runV hX (hadd) (cwV 1 hX.ts (lw_V q646 q376 q377 q68 q378) rfl rfl rfl (by decide +kernel) (zroom (by first | decide | omega) (by decide))) dX3_read_22 (by first | assumption | exact zu_s _ _ _ | exact zu_o (by assumption) (by assumption) | exact zu_o (by assumption) (zu_o (by assumption) (by assumption)) | exact (zu_o (by first | assumption | exact Ne.symm (by assumption)) (zu_s _ _ _)) | exact (zu_o (by first | assumption | exact Ne.symm (by assumption)) (by assumption)) | exact (zu_o (by first | assumption | exact Ne.symm (by assumption)) (zu_o (by first | assumption | exact Ne.symm (by assumption)) (zu_s _ _ _))) | exact (zu_o (by first | assumption | exact Ne.symm (by assumption)) (zu_o (by first | assumption | exact Ne.symm (by assumption)) (by assumption))) | exact (zu_o (by first | assumption | exact Ne.symm (by assumption)) (zu_o (by first | assumption | exact Ne.symm (by assumption)) (zu_o (by first | assumption | exact Ne.symm (by assumption)) (zu_s _ _ _)))) | exact (zu_o (by first | assumption | exact Ne.symm (by assumption)) (zu_o (by first | assumption | exact Ne.symm (by assumption)) (zu_o (by first | assumption | exact Ne.symm (by assumption)) (by assumption)))) | exact (zu_o (by first | assumption | exact Ne.symm (by assumption)) (zu_o (by first | assumption | exact Ne.symm (by assumption)) (zu_o (by first | assumption | exact Ne.symm (by assumption)) (zu_o (by first | assumption | exact Ne.symm (by assumption)) (zu_s _ _ _))))) | exact (zu_o (by first | assumption | exact Ne.symm (by assumption)) (zu_o (by first | assumption | exact Ne.symm (by assumption)) (zu_o (by first | assumption | exact Ne.symm (by assumption)) (zu_o (by first | assumption | exact Ne.symm (by assumption)) (by assumption))))) | exact AL.at (by assumption) | exact EL.at (by assumption) | exact LL.at (by assumption)) (ci := 17) rfl rfl rfl rfl (by first | exact Nat.le_of_ble_eq_true rfl | simp [va_rf_c, Value.category]) (zhf (by omega) (by omega))) (fun r_22 μ_22 h_22 => ?_)
        obtain ⟨rfl, b', c2, hb', hc2, hA3, hf3⟩ := h_22
        refine z_pop hX (by first | rfl | exact va_rf_c _) dX3_read_25 ?_
        refine z_goto hX (tgt := 0) dX3_read_26 rfl ?_
        obtain rfl : c2 = 16 := by omega
        have hb0' : μ0 b' = none := by
          rcases hb' with ⟨q, -⟩ | q
          · rw [q]; exact hb0
          · exact (kg hk2).no q
        have nz : ∀ z e, μ_19 z = some e → kd e ≠ 17 → kd e ≠ 104 → μ_22 z = some e := fun z e hz h1 h2 => by
          rw [hf3 z (zkne hz el1' (by rw [el2']; exact h1)) (by
            rcases hb' with ⟨q, -⟩ | q
            · rw [q]; exact zkne hz ea1' (by rw [ea2']; exact h2)
            · exact zne hz q)]
          exact hz
        have hk3 : zKp μ0 μ_22 := fun z e hz => by
          rw [hf3 z (zne hz hl0) (zne hz hb0')]
          exact kg hk2 z e hz
        have hV2 : (rdF L Y (pp, -1000001)).2 = ((rdF L Y (pp, -1000001)).2.1, -1000001) := Prod.ext rfl hv
        have hqv := (rdF_v (L := L) (Y := Y) (q := (pp, -1000001)) hL.2 ⟨hpp, Or.inl rfl⟩).1
        rw [hV2] at hs
        generalize (rdF L Y (pp, -1000001)).2.1 = p1 at *
        generalize (rdF L Y (pp, -1000001)).1 = v at *
        refine ih (k + 1) p1 _ μ_22 b' _ _ _ (by omega) hk3 (nz _ _ hg2 (by show (3 : Nat) ≠ 17; decide) (by show (3 : Nat) ≠ 104; decide)) hqv hA3 hb0' (by rw [List.length_append, List.length_singleton]; omega) (by omega) ?_ hs (by omega) (by omega)
        have hz := rdZ_v F1 (7 * k) v.1 v.2.1 v.2.2.1 v.2.2.2.1 v.2.2.2.2.1 v.2.2.2.2.2.1 v.2.2.2.2.2.2
        intro i hi
        rw [List.length_append, List.length_singleton] at hi
        by_cases q : i < rs.length
        · obtain ⟨r, r1, r2⟩ := hRL i q
          refine ⟨r, by rw [List.getElem?_append_left q]; exact r1, ?_⟩
          have hr3 := nz _ _ (hk2 _ _ r2 (by simpa using zkne r2 hg (by show (2 : Nat) ≠ 3; decide))) (by show (2 : Nat) ≠ 17; decide) (by show (2 : Nat) ≠ 104; decide)
          rw [hr3]
          exact congrArg some (zed_eq (fun j j0 j6 => (rdZ_o (by omega)).symm))
        · obtain rfl : i = rs.length := by omega
          refine ⟨b, by rw [List.getElem?_append_right (Nat.le_refl _), Nat.sub_self]; rfl, ?_⟩
          rw [nz _ _ hb (by show (2 : Nat) ≠ 17; decide) (by show (2 : Nat) ≠ 104; decide)]
          refine congrArg some (zed_eq (fun j j0 j6 => ?_))
          obtain ⟨z0, z1, z2, z3, z4, z5, z6⟩ := hz
          obtain ⟨g0, g1, g2', g4, g3, g5, g6⟩ := hgd
          rw [hlen]
          obtain rfl | rfl | rfl | rfl | rfl | rfl | rfl : j = 0 ∨ j = 1 ∨ j = 2 ∨ j = 3 ∨ j = 4 ∨ j = 5 ∨ j = 6 := by omega
          · exact g0.trans z0.symm
          · exact g1.trans z1.symm
          · exact g2'.trans z2.symm
          · exact g3.trans z3.symm
          · exact g4.trans z4.symm
          · exact g5.trans z5.symm
          · exact g6.trans z6.symm
  exact loop 17 0 p F μ arr [] 0 0 (by omega) k0 hgg hp hA ha0 rfl (by omega) (fun i hi => by simp at hi) hR (by omega) (by omega)
