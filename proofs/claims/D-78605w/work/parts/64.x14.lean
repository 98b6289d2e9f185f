/-! X SIDE 14: RatioGraph: edges -/
set_option maxRecDepth 100000
theorem nd1 (a : Int) : ndB 1 (zf (fun _ => 0) 0 a) = decide (0 ≤ a ∧ a ≤ 7) := by
  unfold ndB
  show ([0] : List Int).all _ = _
  simp [zf]
theorem nd2 (a b : Int) : ndB 2 (zf (zf (fun _ => 0) 0 a) 1 b) = (decide (0 ≤ a ∧ a ≤ 7) && decide (0 ≤ b ∧ b ≤ 7)) := by
  unfold ndB
  show ([0, 1] : List Int).all _ = _
  simp [zf]
theorem zf_iR {f : Int → Int} {k v : Int} (h : ∀ j, iR (f j)) (hv : iR v) : ∀ j, iR (zf f k v j) := fun j => by
  unfold zf
  split
  · exact hv
  · exact h j
/-- an edge is read -/
theorem EL.rd {E : zE} {μ : zM} {L arr c : Nat} {rs : List Nat} {a : Int → Int} (h : EL E μ L arr c rs a) {i : Int} (i0 : 0 ≤ i) (i1 : i < a 112) : ∃ r g, rs[i.toNat]? = some r ∧ μ r = some (zed g) ∧ g 0 = a (7 * i) ∧ g 1 = a (7 * i + 1) ∧ g 2 = a (7 * i + 2) ∧ g 3 = a (7 * i + 3) ∧ g 4 = a (7 * i + 4) ∧ g 5 = a (7 * i + 5) ∧ g 6 = a (7 * i + 6) := by
  obtain ⟨r, e1, e2⟩ := h.2.2.2 i i0 i1
  exact ⟨r, _, e1, e2, by rw [Int.add_zero], rfl, rfl, rfl, rfl, rfl, rfl⟩
/-- the graph that can be read -/
def xG (E : zE) (μ : zM) (x : Nat) (a : Int → Int) : Prop := ∃ L arr c rs h mk tx tl fo pc hs, μ x = some (zx0 L h mk tx tl fo pc hs) ∧ EL E μ L arr c rs a
theorem xG.mono {E : zE} {μ μ' : zM} {x : Nat} {a : Int → Int} (h : xG E μ x a) (k : ∀ z e, μ z = some e → kd e = 0 ∨ kd e = 17 ∨ kd e = 104 ∨ kd e = 2 → μ' z = some e) : xG E μ' x a := by
  obtain ⟨L, arr, c, rs, h, mk, tx, tl, fo, pc, hs, h1, h2⟩ := h
  exact ⟨L, arr, c, rs, h, mk, tx, tl, fo, pc, hs, k _ _ h1 (Or.inl rfl), h2.mono (fun z e hz hk => k z e hz (Or.inr hk))⟩
theorem xG.kp {E : zE} {μ μ' : zM} {x : Nat} {a : Int → Int} (h : xG E μ x a) (k : zKp μ μ') : xG E μ' x a := h.mono (fun z e hz _ => k z e hz)
theorem xC.G {E : zE} {μ : zM} {x h mk tx : Nat} {tl : Int} {fo pc : Option Nat} {hs : Int} {lo hi : Int} {ad it ar cp : Int → Nat} {rs : Int → List Nat} {ro : Int → Int → Int} (hC : xC E μ x h mk tx tl fo pc hs lo hi ad it ar cp rs ro) : xG E μ x (ro hi) := ⟨_, _, _, _, _, _, _, _, _, _, _, hC.1, hC.2.2.1.1 hi hC.2.2.2.1.1 (Int.le_refl _)⟩
theorem x_isEdge (l : Launch) (E : zE) {μ : zM} {x : Nat} {a : Int → Int} (hG : xG E μ x a) {v : Int} (hv : iR v) : Met l yX0_isEdge (ws_ yX0_isEdge cX0_isEdge 2 (some .boolean)) (zR 1 0 0) (va_Pc [.ref x, .int (zI v)] (zPre E μ)) (zQb E (fun r μ' => μ = μ' ∧ decide (0 ≤ v ∧ v < a 112) = r)) 0 0 (zA E) := by
  obtain ⟨L, arr, c, rs, h, mk, tx, tl, fo, pc, hs, h1, h2⟩ := hG
  have hlen := h2.2.1
  have h16 := h2.2.2.1
  refine zmet (cc := cX0_isEdge) [_, _] (by decide) (Nat.le_of_ble_eq_true rfl) rfl rfl ?_
  intro X hl hX hinit; subst hl
  have hX : zOK X _ cX0_isEdge RX0 (some .boolean) 2 := hX
  refine z_iload_n hX rfl dX0_isEdge_0 ?_
  refine z_i2l hX (by omega) dX0_isEdge_1 ?_
  refine z_lconst hX (z := 0) (by decide) dX0_isEdge_2 ?_
  refine z_aload_n hX rfl (by first | rfl | exact va_rf_r _) dX0_isEdge_3 ?_
  refine z_get hX (C := RX0) (T := TX0) (N := 8) (ci := 0) rfl in_X0 0 (by decide) q159 (Or.inl rfl) dX0_isEdge_4 (by first | assumption | exact zu_s _ _ _ | exact zu_o (by assumption) (by assumption) | exact zu_o (by assumption) (zu_o (by assumption) (by assumption)) | exact (zu_o (by first | assumption | exact Ne.symm (by assumption)) (zu_s _ _ _)) | exact (zu_o (by first | assumption | exact Ne.symm (by assumption)) (by assumption)) | exact (zu_o (by first | assumption | exact Ne.symm (by assumption)) (zu_o (by first | assumption | exact Ne.symm (by assumption)) (zu_s _ _ _))) | exact (zu_o (by first | assumption | exact Ne.symm (by assumption)) (zu_o (by first | assumption | exact Ne.symm (by assumption)) (by assumption))) | exact (zu_o (by first | assumption | exact Ne.symm (by assumption)) (zu_o (by first | assumption | exact Ne.symm (by assumption)) (zu_o (by first | assumption | exact Ne.symm (by assumption)) (zu_s _ _ _)))) | exact (zu_o (by first | assumption | exact Ne.symm (by assumption)) (zu_o (by first | assumption | exact Ne.symm (by assumption)) (zu_o (by first | assumption | exact Ne.symm (by assumption)) (by assumption)))) | exact (zu_o (by first | assumption | exact Ne.symm (by assumption)) (zu_o (by first | assumption | exact Ne.symm (by assumption)) (zu_o (by first | assumption | exact Ne.symm (by assumption)) (zu_o (by first | assumption | exact Ne.symm (by assumption)) (zu_s _ _ _))))) | exact (zu_o (by first | assumption | exact Ne.symm (by assumption)) (zu_o (by first | assumption | exact Ne.symm (by assumption)) (zu_o (by first | assumption | exact Ne.symm (by assumption)) (zu_o (by first | assumption | exact Ne.symm (by assumption)) (by assumption))))) | exact AL.at (by assumption) | exact EL.at (by assumption) | exact LL.at (by assumption)) rfl ?_
  refine z_calli (z_runV hX (x_size _ _ h2.1) (cwV 0 hX.ts (lw_V q209 q210 q211 q68 q212) rfl rfl rfl (by decide +kernel) (zroom (by decide) (by decide))) dX0_isEdge_7 (by first | assumption | exact zu_s _ _ _ | exact zu_o (by assumption) (by assumption) | exact zu_o (by assumption) (zu_o (by assumption) (by assumption)) | exact (zu_o (by first | assumption | exact Ne.symm (by assumption)) (zu_s _ _ _)) | exact (zu_o (by first | assumption | exact Ne.symm (by assumption)) (by assumption)) | exact (zu_o (by first | assumption | exact Ne.symm (by assumption)) (zu_o (by first | assumption | exact Ne.symm (by assumption)) (zu_s _ _ _))) | exact (zu_o (by first | assumption | exact Ne.symm (by assumption)) (zu_o (by first | assumption | exact Ne.symm (by assumption)) (by assumption))) | exact (zu_o (by first | assumption | exact Ne.symm (by assumption)) (zu_o (by first | assumption | exact Ne.symm (by assumption)) (zu_o (by first | assumption | exact Ne.symm (by assumption)) (zu_s _ _ _)))) | exact (zu_o (by first | assumption | exact Ne.symm (by assumption)) (zu_o (by first | assumption | exact Ne.symm (by assumption)) (zu_o (by first | assumption | exact Ne.symm (by assumption)) (by assumption)))) | exact (zu_o (by first | assumption | exact Ne.symm (by assumption)) (zu_o (by first | assumption | exact Ne.symm (by assumption)) (zu_o (by first | assumption | exact Ne.symm (by assumption)) (zu_o (by first | assumption | exact Ne.symm (by assumption)) (zu_s _ _ _))))) | exact (zu_o (by first | assumption | exact Ne.symm (by assumption)) (zu_o (by first | assumption | exact Ne.symm (by assumption)) (zu_o (by first | assumption | exact Ne.symm (by assumption)) (zu_o (by first | assumption | exact Ne.symm (by assumption)) (by assumption))))) | exact AL.at (by assumption) | exact EL.at (by assumption) | exact LL.at (by assumption)) (ci := 17) rfl rfl rfl rfl (by first | exact Nat.le_of_ble_eq_true rfl | simp [va_rf_c, Value.category]) (zhf (by omega) (by omega))) (fun r_7 μ_7 h_7 => ?_)
  obtain ⟨rfl, rfl⟩ := h_7
  refine z_iconst hX dX0_isEdge_10 ?_
  refine z_isub hX dX0_isEdge_11 ?_
  refine z_i2l hX (by omega) dX0_isEdge_12 ?_
  refine z_callb (z_runS hX (x_isIn _ _ _ (by unfold lR; omega) (by unfold lR; omega) (by unfold lR; omega)) (va_cwS 3 hX.ts (lw_S q197 q198 q65 q199) rfl rfl rfl (by decide +kernel) (zroom (by decide) (by decide))) dX0_isEdge_13 rfl rfl rfl (by first | exact Nat.le_of_ble_eq_true rfl | simp [va_rf_c, Value.category]) (zhf (by omega) (by omega))) (fun r_13 μ_13 h_13 => ?_)
  obtain ⟨rfl, rfl⟩ := h_13
  (try rw [← hQ])
  first | refine z_breturn hX true dX0_isEdge_16 (by omega) (by omega) ?_ | refine z_breturn hX false dX0_isEdge_16 (by omega) (by omega) ?_ | refine z_breturn hX _ dX0_isEdge_16 (by omega) (by omega) ?_
  exact ⟨rfl, decide_eq_decide.mpr (by omega)⟩
theorem x_edge (l : Launch) (E : zE) {μ : zM} {x : Nat} {a : Int → Int} (hG : xG E μ x a) {e w : Int} (he : iR e) (hw : iR w) : Met l yX0_edge (ws_ yX0_edge cX0_edge 3 (some .int)) (zR 3 0 0) (va_Pc [.ref x, .int (zI e), .int (zI w)] (zPre E μ)) (zQi E (fun r μ' => μ = μ' ∧ (if (0 ≤ e ∧ e < a 112) ∧ 0 ≤ w ∧ w ≤ 6 then a (7 * e + w) else gBAD) = r)) 0 0 (zA E) := by
  have hG' := hG
  obtain ⟨L, arr, c, rs, h, mk, tx, tl, fo, pc, hs, h1, h2⟩ := hG
  refine zmet (cc := cX0_edge) [_, _, _] (by decide) (Nat.le_of_ble_eq_true rfl) rfl rfl ?_
  intro X hl hX hinit; subst hl
  have hX : zOK X _ cX0_edge RX0 (some .int) 3 := hX
  generalize hQ : MQ _ _ _ _ _ _ _ = Q
  refine z_aload_n hX rfl (by first | rfl | exact va_rf_r _) dX0_edge_0 ?_
  refine z_iload_n hX rfl dX0_edge_1 ?_
  refine z_callb (z_runV hX (x_isEdge _ _ hG' he) (cwV 1 hX.ts (lw_V q408 q410 qs5 q65 q411) rfl rfl rfl (by decide +kernel) (zroom (by decide) (by decide))) dX0_edge_2 (by first | assumption | exact zu_s _ _ _ | exact zu_o (by assumption) (by assumption) | exact zu_o (by assumption) (zu_o (by assumption) (by assumption)) | exact (zu_o (by first | assumption | exact Ne.symm (by assumption)) (zu_s _ _ _)) | exact (zu_o (by first | assumption | exact Ne.symm (by assumption)) (by assumption)) | exact (zu_o (by first | assumption | exact Ne.symm (by assumption)) (zu_o (by first | assumption | exact Ne.symm (by assumption)) (zu_s _ _ _))) | exact (zu_o (by first | assumption | exact Ne.symm (by assumption)) (zu_o (by first | assumption | exact Ne.symm (by assumption)) (by assumption))) | exact (zu_o (by first | assumption | exact Ne.symm (by assumption)) (zu_o (by first | assumption | exact Ne.symm (by assumption)) (zu_o (by first | assumption | exact Ne.symm (by assumption)) (zu_s _ _ _)))) | exact (zu_o (by first | assumption | exact Ne.symm (by assumption)) (zu_o (by first | assumption | exact Ne.symm (by assumption)) (zu_o (by first | assumption | exact Ne.symm (by assumption)) (by assumption)))) | exact (zu_o (by first | assumption | exact Ne.symm (by assumption)) (zu_o (by first | assumption | exact Ne.symm (by assumption)) (zu_o (by first | assumption | exact Ne.symm (by assumption)) (zu_o (by first | assumption | exact Ne.symm (by assumption)) (zu_s _ _ _))))) | exact (zu_o (by first | assumption | exact Ne.symm (by assumption)) (zu_o (by first | assumption | exact Ne.symm (by assumption)) (zu_o (by first | assumption | exact Ne.symm (by assumption)) (zu_o (by first | assumption | exact Ne.symm (by assumption)) (by assumption))))) | exact AL.at (by assumption) | exact EL.at (by assumption) | exact LL.at (by assumption)) (ci := 0) rfl rfl rfl rfl (by first | exact Nat.le_of_ble_eq_true rfl | simp [va_rf_c, Value.category]) (zhf (by omega) (by omega))) (fun r_2 μ_2 h_2 => ?_)
  obtain ⟨rfl, rfl⟩ := h_2
  refine z_if_eq_b hX dX0_edge_5 (tgt := 38) rfl (fun h_5 => ?_) (fun h_5 => ?_)
  · have hn : ¬ (0 ≤ e ∧ e < a 112) := of_decide_eq_false h_5
    refine z_ldc hX (z := -1000002) q208 (by decide) dX0_edge_38 ?_
    (try rw [← hQ])
    refine z_ireturn hX dX0_edge_40 (by omega) (by omega) ?_
    exact ⟨rfl, if_neg (fun q => hn q.1)⟩
  · have hn : 0 ≤ e ∧ e < a 112 := of_decide_eq_true h_5
    refine z_iload_n hX rfl dX0_edge_8 ?_
    refine z_i2l hX (by omega) dX0_edge_9 ?_
    refine z_lconst hX (z := 0) (by decide) dX0_edge_10 ?_
    refine z_ldc2_w hX (z := 6) q465 (by decide) dX0_edge_11 ?_
    refine z_callb (z_runS hX (x_isIn _ _ _ (by unfold lR; omega) (by unfold lR; omega) (by unfold lR; omega)) (va_cwS 3 hX.ts (lw_S q197 q198 q65 q199) rfl rfl rfl (by decide +kernel) (zroom (by decide) (by decide))) dX0_edge_14 rfl rfl rfl (by first | exact Nat.le_of_ble_eq_true rfl | simp [va_rf_c, Value.category]) (zhf (by omega) (by omega))) (fun r_14 μ_14 h_14 => ?_)
    obtain ⟨rfl, rfl⟩ := h_14
    refine z_if_eq_b hX dX0_edge_17 (tgt := 38) rfl (fun h_17 => ?_) (fun h_17 => ?_)
    · have hn2 : ¬ (0 ≤ w ∧ w ≤ 6) := of_decide_eq_false h_17
      refine z_ldc hX (z := -1000002) q208 (by decide) dX0_edge_38 ?_
      (try rw [← hQ])
      refine z_ireturn hX dX0_edge_40 (by omega) (by omega) ?_
      exact ⟨rfl, if_neg (fun q => hn2 q.2)⟩
    · have hn2 : 0 ≤ w ∧ w ≤ 6 := of_decide_eq_true h_17
      obtain ⟨r, e1, e2⟩ := h2.2.2.2 e hn.1 hn.2
      refine z_aload_n hX rfl (by first | rfl | exact va_rf_r _) dX0_edge_20 ?_
      refine z_get hX (C := RX0) (T := TX0) (N := 8) (ci := 0) rfl in_X0 0 (by decide) q159 (Or.inl rfl) dX0_edge_21 (by first | assumption | exact zu_s _ _ _ | exact zu_o (by assumption) (by assumption) | exact zu_o (by assumption) (zu_o (by assumption) (by assumption)) | exact (zu_o (by first | assumption | exact Ne.symm (by assumption)) (zu_s _ _ _)) | exact (zu_o (by first | assumption | exact Ne.symm (by assumption)) (by assumption)) | exact (zu_o (by first | assumption | exact Ne.symm (by assumption)) (zu_o (by first | assumption | exact Ne.symm (by assumption)) (zu_s _ _ _))) | exact (zu_o (by first | assumption | exact Ne.symm (by assumption)) (zu_o (by first | assumption | exact Ne.symm (by assumption)) (by assumption))) | exact (zu_o (by first | assumption | exact Ne.symm (by assumption)) (zu_o (by first | assumption | exact Ne.symm (by assumption)) (zu_o (by first | assumption | exact Ne.symm (by assumption)) (zu_s _ _ _)))) | exact (zu_o (by first | assumption | exact Ne.symm (by assumption)) (zu_o (by first | assumption | exact Ne.symm (by assumption)) (zu_o (by first | assumption | exact Ne.symm (by assumption)) (by assumption)))) | exact (zu_o (by first | assumption | exact Ne.symm (by assumption)) (zu_o (by first | assumption | exact Ne.symm (by assumption)) (zu_o (by first | assumption | exact Ne.symm (by assumption)) (zu_o (by first | assumption | exact Ne.symm (by assumption)) (zu_s _ _ _))))) | exact (zu_o (by first | assumption | exact Ne.symm (by assumption)) (zu_o (by first | assumption | exact Ne.symm (by assumption)) (zu_o (by first | assumption | exact Ne.symm (by assumption)) (zu_o (by first | assumption | exact Ne.symm (by assumption)) (by assumption))))) | exact AL.at (by assumption) | exact EL.at (by assumption) | exact LL.at (by assumption)) rfl ?_
      refine z_iload_n hX rfl dX0_edge_24 ?_
      refine z_callq (z_runV hX (x_getR _ _ h2.1 hn.1 e1) (cwV 1 hX.ts (lw_V q431 q432 q433 q68 q434) rfl rfl rfl (by decide +kernel) (zroom (by decide) (by decide))) dX0_edge_25 (by first | assumption | exact zu_s _ _ _ | exact zu_o (by assumption) (by assumption) | exact zu_o (by assumption) (zu_o (by assumption) (by assumption)) | exact (zu_o (by first | assumption | exact Ne.symm (by assumption)) (zu_s _ _ _)) | exact (zu_o (by first | assumption | exact Ne.symm (by assumption)) (by assumption)) | exact (zu_o (by first | assumption | exact Ne.symm (by assumption)) (zu_o (by first | assumption | exact Ne.symm (by assumption)) (zu_s _ _ _))) | exact (zu_o (by first | assumption | exact Ne.symm (by assumption)) (zu_o (by first | assumption | exact Ne.symm (by assumption)) (by assumption))) | exact (zu_o (by first | assumption | exact Ne.symm (by assumption)) (zu_o (by first | assumption | exact Ne.symm (by assumption)) (zu_o (by first | assumption | exact Ne.symm (by assumption)) (zu_s _ _ _)))) | exact (zu_o (by first | assumption | exact Ne.symm (by assumption)) (zu_o (by first | assumption | exact Ne.symm (by assumption)) (zu_o (by first | assumption | exact Ne.symm (by assumption)) (by assumption)))) | exact (zu_o (by first | assumption | exact Ne.symm (by assumption)) (zu_o (by first | assumption | exact Ne.symm (by assumption)) (zu_o (by first | assumption | exact Ne.symm (by assumption)) (zu_o (by first | assumption | exact Ne.symm (by assumption)) (zu_s _ _ _))))) | exact (zu_o (by first | assumption | exact Ne.symm (by assumption)) (zu_o (by first | assumption | exact Ne.symm (by assumption)) (zu_o (by first | assumption | exact Ne.symm (by assumption)) (zu_o (by first | assumption | exact Ne.symm (by assumption)) (by assumption))))) | exact AL.at (by assumption) | exact EL.at (by assumption) | exact LL.at (by assumption)) (ci := 17) rfl rfl rfl rfl (by first | exact Nat.le_of_ble_eq_true rfl | simp [va_rf_c, Value.category]) (zhf (by omega) (by omega))) (fun r_25 μ_25 h_25 => ?_)
      obtain ⟨rfl, rfl⟩ := h_25
      refine z_cast hX q325 (ci := 2) (C := RX2) (T := TX2) (N := 7) rfl dX0_edge_28 (by first | assumption | exact zu_s _ _ _ | exact zu_o (by assumption) (by assumption) | exact zu_o (by assumption) (zu_o (by assumption) (by assumption)) | exact (zu_o (by first | assumption | exact Ne.symm (by assumption)) (zu_s _ _ _)) | exact (zu_o (by first | assumption | exact Ne.symm (by assumption)) (by assumption)) | exact (zu_o (by first | assumption | exact Ne.symm (by assumption)) (zu_o (by first | assumption | exact Ne.symm (by assumption)) (zu_s _ _ _))) | exact (zu_o (by first | assumption | exact Ne.symm (by assumption)) (zu_o (by first | assumption | exact Ne.symm (by assumption)) (by assumption))) | exact (zu_o (by first | assumption | exact Ne.symm (by assumption)) (zu_o (by first | assumption | exact Ne.symm (by assumption)) (zu_o (by first | assumption | exact Ne.symm (by assumption)) (zu_s _ _ _)))) | exact (zu_o (by first | assumption | exact Ne.symm (by assumption)) (zu_o (by first | assumption | exact Ne.symm (by assumption)) (zu_o (by first | assumption | exact Ne.symm (by assumption)) (by assumption)))) | exact (zu_o (by first | assumption | exact Ne.symm (by assumption)) (zu_o (by first | assumption | exact Ne.symm (by assumption)) (zu_o (by first | assumption | exact Ne.symm (by assumption)) (zu_o (by first | assumption | exact Ne.symm (by assumption)) (zu_s _ _ _))))) | exact (zu_o (by first | assumption | exact Ne.symm (by assumption)) (zu_o (by first | assumption | exact Ne.symm (by assumption)) (zu_o (by first | assumption | exact Ne.symm (by assumption)) (zu_o (by first | assumption | exact Ne.symm (by assumption)) (by assumption))))) | exact AL.at (by assumption) | exact EL.at (by assumption) | exact LL.at (by assumption)) ?_
      refine z_iload_n hX rfl dX0_edge_31 ?_
      refine z_calli (z_runV hX (x_part _ _ e2 hw) (cwV 1 hX.ts (lw_V q448 q449 q450 q72 q451) rfl rfl rfl (by decide +kernel) (zroom (by decide) (by decide))) dX0_edge_32 (by first | assumption | exact zu_s _ _ _ | exact zu_o (by assumption) (by assumption) | exact zu_o (by assumption) (zu_o (by assumption) (by assumption)) | exact (zu_o (by first | assumption | exact Ne.symm (by assumption)) (zu_s _ _ _)) | exact (zu_o (by first | assumption | exact Ne.symm (by assumption)) (by assumption)) | exact (zu_o (by first | assumption | exact Ne.symm (by assumption)) (zu_o (by first | assumption | exact Ne.symm (by assumption)) (zu_s _ _ _))) | exact (zu_o (by first | assumption | exact Ne.symm (by assumption)) (zu_o (by first | assumption | exact Ne.symm (by assumption)) (by assumption))) | exact (zu_o (by first | assumption | exact Ne.symm (by assumption)) (zu_o (by first | assumption | exact Ne.symm (by assumption)) (zu_o (by first | assumption | exact Ne.symm (by assumption)) (zu_s _ _ _)))) | exact (zu_o (by first | assumption | exact Ne.symm (by assumption)) (zu_o (by first | assumption | exact Ne.symm (by assumption)) (zu_o (by first | assumption | exact Ne.symm (by assumption)) (by assumption)))) | exact (zu_o (by first | assumption | exact Ne.symm (by assumption)) (zu_o (by first | assumption | exact Ne.symm (by assumption)) (zu_o (by first | assumption | exact Ne.symm (by assumption)) (zu_o (by first | assumption | exact Ne.symm (by assumption)) (zu_s _ _ _))))) | exact (zu_o (by first | assumption | exact Ne.symm (by assumption)) (zu_o (by first | assumption | exact Ne.symm (by assumption)) (zu_o (by first | assumption | exact Ne.symm (by assumption)) (zu_o (by first | assumption | exact Ne.symm (by assumption)) (by assumption))))) | exact AL.at (by assumption) | exact EL.at (by assumption) | exact LL.at (by assumption)) (ci := 2) rfl rfl rfl rfl (by first | exact Nat.le_of_ble_eq_true rfl | simp [va_rf_c, Value.category]) (zhf (by omega) (by omega))) (fun r_32 μ_32 h_32 => ?_)
      obtain ⟨rfl, rfl⟩ := h_32
      refine z_goto hX (tgt := 40) dX0_edge_35 rfl ?_
      (try rw [← hQ])
      refine z_ireturn hX dX0_edge_40 (by omega) (by omega) ?_
      refine ⟨rfl, ?_⟩
      rw [if_pos ⟨hn, hn2⟩, ptF]
      split
      · rfl
      · obtain rfl : w = 6 := by omega
        rfl
theorem x_allEdges (l : Launch) (E : zE) {μ : zM} {x : Nat} {a : Int → Int} (hG : xG E μ x a) : Met l yX0_allEdges (ws_ yX0_allEdges cX0_allEdges 1 (some .int)) (zR 1 0 0) (va_Pc [.ref x] (zPre E μ)) (zQi E (fun r μ' => μ = μ' ∧ ((2 ^ (a 112).toNat - 1 : Nat) : Int) = r)) 0 0 (zA E) := by
  obtain ⟨L, arr, c, rs, h, mk, tx, tl, fo, pc, hs, h1, h2⟩ := hG
  have hlen := h2.2.1
  have h16 := h2.2.2.1
  have hp : (2 : Nat) ^ (a 112).toNat ≥ 1 := Nat.one_le_two_pow
  refine zmet (cc := cX0_allEdges) [_] (by decide) (Nat.le_of_ble_eq_true rfl) rfl rfl ?_
  intro X hl hX hinit; subst hl
  have hX : zOK X _ cX0_allEdges RX0 (some .int) 1 := hX
  refine z_iconst hX dX0_allEdges_0 ?_
  refine z_aload_n hX rfl (by first | rfl | exact va_rf_r _) dX0_allEdges_1 ?_
  refine z_get hX (C := RX0) (T := TX0) (N := 8) (ci := 0) rfl in_X0 0 (by decide) q159 (Or.inl rfl) dX0_allEdges_2 (by first | assumption | exact zu_s _ _ _ | exact zu_o (by assumption) (by assumption) | exact zu_o (by assumption) (zu_o (by assumption) (by assumption)) | exact (zu_o (by first | assumption | exact Ne.symm (by assumption)) (zu_s _ _ _)) | exact (zu_o (by first | assumption | exact Ne.symm (by assumption)) (by assumption)) | exact (zu_o (by first | assumption | exact Ne.symm (by assumption)) (zu_o (by first | assumption | exact Ne.symm (by assumption)) (zu_s _ _ _))) | exact (zu_o (by first | assumption | exact Ne.symm (by assumption)) (zu_o (by first | assumption | exact Ne.symm (by assumption)) (by assumption))) | exact (zu_o (by first | assumption | exact Ne.symm (by assumption)) (zu_o (by first | assumption | exact Ne.symm (by assumption)) (zu_o (by first | assumption | exact Ne.symm (by assumption)) (zu_s _ _ _)))) | exact (zu_o (by first | assumption | exact Ne.symm (by assumption)) (zu_o (by first | assumption | exact Ne.symm (by assumption)) (zu_o (by first | assumption | exact Ne.symm (by assumption)) (by assumption)))) | exact (zu_o (by first | assumption | exact Ne.symm (by assumption)) (zu_o (by first | assumption | exact Ne.symm (by assumption)) (zu_o (by first | assumption | exact Ne.symm (by assumption)) (zu_o (by first | assumption | exact Ne.symm (by assumption)) (zu_s _ _ _))))) | exact (zu_o (by first | assumption | exact Ne.symm (by assumption)) (zu_o (by first | assumption | exact Ne.symm (by assumption)) (zu_o (by first | assumption | exact Ne.symm (by assumption)) (zu_o (by first | assumption | exact Ne.symm (by assumption)) (by assumption))))) | exact AL.at (by assumption) | exact EL.at (by assumption) | exact LL.at (by assumption)) rfl ?_
  refine z_calli (z_runV hX (x_size _ _ h2.1) (cwV 0 hX.ts (lw_V q209 q210 q211 q68 q212) rfl rfl rfl (by decide +kernel) (zroom (by decide) (by decide))) dX0_allEdges_5 (by first | assumption | exact zu_s _ _ _ | exact zu_o (by assumption) (by assumption) | exact zu_o (by assumption) (zu_o (by assumption) (by assumption)) | exact (zu_o (by first | assumption | exact Ne.symm (by assumption)) (zu_s _ _ _)) | exact (zu_o (by first | assumption | exact Ne.symm (by assumption)) (by assumption)) | exact (zu_o (by first | assumption | exact Ne.symm (by assumption)) (zu_o (by first | assumption | exact Ne.symm (by assumption)) (zu_s _ _ _))) | exact (zu_o (by first | assumption | exact Ne.symm (by assumption)) (zu_o (by first | assumption | exact Ne.symm (by assumption)) (by assumption))) | exact (zu_o (by first | assumption | exact Ne.symm (by assumption)) (zu_o (by first | assumption | exact Ne.symm (by assumption)) (zu_o (by first | assumption | exact Ne.symm (by assumption)) (zu_s _ _ _)))) | exact (zu_o (by first | assumption | exact Ne.symm (by assumption)) (zu_o (by first | assumption | exact Ne.symm (by assumption)) (zu_o (by first | assumption | exact Ne.symm (by assumption)) (by assumption)))) | exact (zu_o (by first | assumption | exact Ne.symm (by assumption)) (zu_o (by first | assumption | exact Ne.symm (by assumption)) (zu_o (by first | assumption | exact Ne.symm (by assumption)) (zu_o (by first | assumption | exact Ne.symm (by assumption)) (zu_s _ _ _))))) | exact (zu_o (by first | assumption | exact Ne.symm (by assumption)) (zu_o (by first | assumption | exact Ne.symm (by assumption)) (zu_o (by first | assumption | exact Ne.symm (by assumption)) (zu_o (by first | assumption | exact Ne.symm (by assumption)) (by assumption))))) | exact AL.at (by assumption) | exact EL.at (by assumption) | exact LL.at (by assumption)) (ci := 17) rfl rfl rfl rfl (by first | exact Nat.le_of_ble_eq_true rfl | simp [va_rf_c, Value.category]) (zhf (by omega) (by omega))) (fun r_5 μ_5 h_5 => ?_)
  obtain ⟨rfl, rfl⟩ := h_5
  refine z_ishl hX (z := ((2^(rs.length:Int).toNat:Nat):Int)) (zshlI (by omega) (by omega)) dX0_allEdges_8 ?_
  refine z_iconst hX dX0_allEdges_9 ?_
  refine z_isub hX dX0_allEdges_10 ?_
  (try rw [← hQ])
  refine z_ireturn hX dX0_allEdges_11 (by omega) (by omega) ?_
  refine ⟨rfl, ?_⟩
  rw [hlen]
  omega
theorem x_weightSum (l : Launch) (E : zE) {μ : zM} {x : Nat} {a : Int → Int} (hG : xG E μ x a) : Met l yX0_weightSum (ws_ yX0_weightSum cX0_weightSum 3 (some .int)) (zR 3 0 0) (va_Pc [.ref x] (zPre E μ)) (zQi E (fun r μ' => μ = μ' ∧ esum a 2 (er 0 (a 112)) = r)) 0 0 (zA E) := by
  obtain ⟨L, arr, c, rs, h, mk, tx, tl, fo, pc, hs, h1, h2⟩ := hG
  have hlen := h2.2.1
  have h16 := h2.2.2.1
  refine zmet (cc := cX0_weightSum) [_, _, _] (by decide) (Nat.le_of_ble_eq_true rfl) rfl rfl ?_
  intro X hl hX hinit; subst hl
  have hX : zOK X _ cX0_weightSum RX0 (some .int) 3 := hX
  generalize hQ : MQ _ _ _ _ _ _ _ = Q
  have loop : ∀ (k : Nat) (i s : Int), 0 ≤ i → i ≤ a 112 → a 112 < i + k → s + esum a 2 (er i (a 112)) = esum a 2 (er 0 (a 112)) → zW X (zR 3 0 0) E (μ) 0 0 Q 4 [some (.ref x), some (.int (zI s)), some (.int (zI i))] [] := by
    intro k
    induction k with
    | zero => intros; exfalso; omega
    | succ k ih =>
      intro i s i0 i1 hk hs
      refine z_iload_n hX rfl dX0_weightSum_4 ?_
      refine z_aload_n hX rfl (by first | rfl | exact va_rf_r _) dX0_weightSum_5 ?_
      refine z_get hX (C := RX0) (T := TX0) (N := 8) (ci := 0) rfl in_X0 0 (by decide) q159 (Or.inl rfl) dX0_weightSum_6 (by first | assumption | exact zu_s _ _ _ | exact zu_o (by assumption) (by assumption) | exact zu_o (by assumption) (zu_o (by assumption) (by assumption)) | exact (zu_o (by first | assumption | exact Ne.symm (by assumption)) (zu_s _ _ _)) | exact (zu_o (by first | assumption | exact Ne.symm (by assumption)) (by assumption)) | exact (zu_o (by first | assumption | exact Ne.symm (by assumption)) (zu_o (by first | assumption | exact Ne.symm (by assumption)) (zu_s _ _ _))) | exact (zu_o (by first | assumption | exact Ne.symm (by assumption)) (zu_o (by first | assumption | exact Ne.symm (by assumption)) (by assumption))) | exact (zu_o (by first | assumption | exact Ne.symm (by assumption)) (zu_o (by first | assumption | exact Ne.symm (by assumption)) (zu_o (by first | assumption | exact Ne.symm (by assumption)) (zu_s _ _ _)))) | exact (zu_o (by first | assumption | exact Ne.symm (by assumption)) (zu_o (by first | assumption | exact Ne.symm (by assumption)) (zu_o (by first | assumption | exact Ne.symm (by assumption)) (by assumption)))) | exact (zu_o (by first | assumption | exact Ne.symm (by assumption)) (zu_o (by first | assumption | exact Ne.symm (by assumption)) (zu_o (by first | assumption | exact Ne.symm (by assumption)) (zu_o (by first | assumption | exact Ne.symm (by assumption)) (zu_s _ _ _))))) | exact (zu_o (by first | assumption | exact Ne.symm (by assumption)) (zu_o (by first | assumption | exact Ne.symm (by assumption)) (zu_o (by first | assumption | exact Ne.symm (by assumption)) (zu_o (by first | assumption | exact Ne.symm (by assumption)) (by assumption))))) | exact AL.at (by assumption) | exact EL.at (by assumption) | exact LL.at (by assumption)) rfl ?_
      refine z_calli (z_runV hX (x_size _ _ h2.1) (cwV 0 hX.ts (lw_V q209 q210 q211 q68 q212) rfl rfl rfl (by decide +kernel) (zroom (by decide) (by decide))) dX0_weightSum_9 (by first | assumption | exact zu_s _ _ _ | exact zu_o (by assumption) (by assumption) | exact zu_o (by assumption) (zu_o (by assumption) (by assumption)) | exact (zu_o (by first | assumption | exact Ne.symm (by assumption)) (zu_s _ _ _)) | exact (zu_o (by first | assumption | exact Ne.symm (by assumption)) (by assumption)) | exact (zu_o (by first | assumption | exact Ne.symm (by assumption)) (zu_o (by first | assumption | exact Ne.symm (by assumption)) (zu_s _ _ _))) | exact (zu_o (by first | assumption | exact Ne.symm (by assumption)) (zu_o (by first | assumption | exact Ne.symm (by assumption)) (by assumption))) | exact (zu_o (by first | assumption | exact Ne.symm (by assumption)) (zu_o (by first | assumption | exact Ne.symm (by assumption)) (zu_o (by first | assumption | exact Ne.symm (by assumption)) (zu_s _ _ _)))) | exact (zu_o (by first | assumption | exact Ne.symm (by assumption)) (zu_o (by first | assumption | exact Ne.symm (by assumption)) (zu_o (by first | assumption | exact Ne.symm (by assumption)) (by assumption)))) | exact (zu_o (by first | assumption | exact Ne.symm (by assumption)) (zu_o (by first | assumption | exact Ne.symm (by assumption)) (zu_o (by first | assumption | exact Ne.symm (by assumption)) (zu_o (by first | assumption | exact Ne.symm (by assumption)) (zu_s _ _ _))))) | exact (zu_o (by first | assumption | exact Ne.symm (by assumption)) (zu_o (by first | assumption | exact Ne.symm (by assumption)) (zu_o (by first | assumption | exact Ne.symm (by assumption)) (zu_o (by first | assumption | exact Ne.symm (by assumption)) (by assumption))))) | exact AL.at (by assumption) | exact EL.at (by assumption) | exact LL.at (by assumption)) (ci := 17) rfl rfl rfl rfl (by first | exact Nat.le_of_ble_eq_true rfl | simp [va_rf_c, Value.category]) (zhf (by omega) (by omega))) (fun r_9 μ_9 h_9 => ?_)
      obtain ⟨rfl, rfl⟩ := h_9
      refine z_icmp_ge hX (by omega) (by omega) dX0_weightSum_12 (tgt := 38) rfl (fun h_12 => ?_) (fun h_12 => ?_)
      · rw [er_nil (by omega)] at hs
        refine z_iload_n hX rfl dX0_weightSum_38 ?_
        (try rw [← hQ])
        refine z_ireturn hX dX0_weightSum_39 (by omega) (by omega) ?_
        exact ⟨rfl, by rw [← hs]; simp [esum]⟩
      · obtain ⟨r, e1, e2⟩ := h2.2.2.2 i i0 (by omega)
        rw [er_cons (show i < a 112 by omega)] at hs
        refine z_iload_n hX rfl dX0_weightSum_15 ?_
        refine z_aload_n hX rfl (by first | rfl | exact va_rf_r _) dX0_weightSum_16 ?_
        refine z_get hX (C := RX0) (T := TX0) (N := 8) (ci := 0) rfl in_X0 0 (by decide) q159 (Or.inl rfl) dX0_weightSum_17 (by first | assumption | exact zu_s _ _ _ | exact zu_o (by assumption) (by assumption) | exact zu_o (by assumption) (zu_o (by assumption) (by assumption)) | exact (zu_o (by first | assumption | exact Ne.symm (by assumption)) (zu_s _ _ _)) | exact (zu_o (by first | assumption | exact Ne.symm (by assumption)) (by assumption)) | exact (zu_o (by first | assumption | exact Ne.symm (by assumption)) (zu_o (by first | assumption | exact Ne.symm (by assumption)) (zu_s _ _ _))) | exact (zu_o (by first | assumption | exact Ne.symm (by assumption)) (zu_o (by first | assumption | exact Ne.symm (by assumption)) (by assumption))) | exact (zu_o (by first | assumption | exact Ne.symm (by assumption)) (zu_o (by first | assumption | exact Ne.symm (by assumption)) (zu_o (by first | assumption | exact Ne.symm (by assumption)) (zu_s _ _ _)))) | exact (zu_o (by first | assumption | exact Ne.symm (by assumption)) (zu_o (by first | assumption | exact Ne.symm (by assumption)) (zu_o (by first | assumption | exact Ne.symm (by assumption)) (by assumption)))) | exact (zu_o (by first | assumption | exact Ne.symm (by assumption)) (zu_o (by first | assumption | exact Ne.symm (by assumption)) (zu_o (by first | assumption | exact Ne.symm (by assumption)) (zu_o (by first | assumption | exact Ne.symm (by assumption)) (zu_s _ _ _))))) | exact (zu_o (by first | assumption | exact Ne.symm (by assumption)) (zu_o (by first | assumption | exact Ne.symm (by assumption)) (zu_o (by first | assumption | exact Ne.symm (by assumption)) (zu_o (by first | assumption | exact Ne.symm (by assumption)) (by assumption))))) | exact AL.at (by assumption) | exact EL.at (by assumption) | exact LL.at (by assumption)) rfl ?_
        refine z_iload_n hX rfl dX0_weightSum_20 ?_
        refine z_callq (z_runV hX (x_getR _ _ h2.1 i0 e1) (cwV 1 hX.ts (lw_V q431 q432 q433 q68 q434) rfl rfl rfl (by decide +kernel) (zroom (by decide) (by decide))) dX0_weightSum_21 (by first | assumption | exact zu_s _ _ _ | exact zu_o (by assumption) (by assumption) | exact zu_o (by assumption) (zu_o (by assumption) (by assumption)) | exact (zu_o (by first | assumption | exact Ne.symm (by assumption)) (zu_s _ _ _)) | exact (zu_o (by first | assumption | exact Ne.symm (by assumption)) (by assumption)) | exact (zu_o (by first | assumption | exact Ne.symm (by assumption)) (zu_o (by first | assumption | exact Ne.symm (by assumption)) (zu_s _ _ _))) | exact (zu_o (by first | assumption | exact Ne.symm (by assumption)) (zu_o (by first | assumption | exact Ne.symm (by assumption)) (by assumption))) | exact (zu_o (by first | assumption | exact Ne.symm (by assumption)) (zu_o (by first | assumption | exact Ne.symm (by assumption)) (zu_o (by first | assumption | exact Ne.symm (by assumption)) (zu_s _ _ _)))) | exact (zu_o (by first | assumption | exact Ne.symm (by assumption)) (zu_o (by first | assumption | exact Ne.symm (by assumption)) (zu_o (by first | assumption | exact Ne.symm (by assumption)) (by assumption)))) | exact (zu_o (by first | assumption | exact Ne.symm (by assumption)) (zu_o (by first | assumption | exact Ne.symm (by assumption)) (zu_o (by first | assumption | exact Ne.symm (by assumption)) (zu_o (by first | assumption | exact Ne.symm (by assumption)) (zu_s _ _ _))))) | exact (zu_o (by first | assumption | exact Ne.symm (by assumption)) (zu_o (by first | assumption | exact Ne.symm (by assumption)) (zu_o (by first | assumption | exact Ne.symm (by assumption)) (zu_o (by first | assumption | exact Ne.symm (by assumption)) (by assumption))))) | exact AL.at (by assumption) | exact EL.at (by assumption) | exact LL.at (by assumption)) (ci := 17) rfl rfl rfl rfl (by first | exact Nat.le_of_ble_eq_true rfl | simp [va_rf_c, Value.category]) (zhf (by omega) (by omega))) (fun r_21 μ_21 h_21 => ?_)
        obtain ⟨rfl, rfl⟩ := h_21
        refine z_cast hX q325 (ci := 2) (C := RX2) (T := TX2) (N := 7) rfl dX0_weightSum_24 (by first | assumption | exact zu_s _ _ _ | exact zu_o (by assumption) (by assumption) | exact zu_o (by assumption) (zu_o (by assumption) (by assumption)) | exact (zu_o (by first | assumption | exact Ne.symm (by assumption)) (zu_s _ _ _)) | exact (zu_o (by first | assumption | exact Ne.symm (by assumption)) (by assumption)) | exact (zu_o (by first | assumption | exact Ne.symm (by assumption)) (zu_o (by first | assumption | exact Ne.symm (by assumption)) (zu_s _ _ _))) | exact (zu_o (by first | assumption | exact Ne.symm (by assumption)) (zu_o (by first | assumption | exact Ne.symm (by assumption)) (by assumption))) | exact (zu_o (by first | assumption | exact Ne.symm (by assumption)) (zu_o (by first | assumption | exact Ne.symm (by assumption)) (zu_o (by first | assumption | exact Ne.symm (by assumption)) (zu_s _ _ _)))) | exact (zu_o (by first | assumption | exact Ne.symm (by assumption)) (zu_o (by first | assumption | exact Ne.symm (by assumption)) (zu_o (by first | assumption | exact Ne.symm (by assumption)) (by assumption)))) | exact (zu_o (by first | assumption | exact Ne.symm (by assumption)) (zu_o (by first | assumption | exact Ne.symm (by assumption)) (zu_o (by first | assumption | exact Ne.symm (by assumption)) (zu_o (by first | assumption | exact Ne.symm (by assumption)) (zu_s _ _ _))))) | exact (zu_o (by first | assumption | exact Ne.symm (by assumption)) (zu_o (by first | assumption | exact Ne.symm (by assumption)) (zu_o (by first | assumption | exact Ne.symm (by assumption)) (zu_o (by first | assumption | exact Ne.symm (by assumption)) (by assumption))))) | exact AL.at (by assumption) | exact EL.at (by assumption) | exact LL.at (by assumption)) ?_
        refine z_getN hX (C := RX2) (T := TX2) (N := 7) (ci := 2) rfl in_X2 2 (by decide) q347 (Or.inl rfl) dX0_weightSum_27 (by first | assumption | exact zu_s _ _ _ | exact zu_o (by assumption) (by assumption) | exact zu_o (by assumption) (zu_o (by assumption) (by assumption)) | exact (zu_o (by first | assumption | exact Ne.symm (by assumption)) (zu_s _ _ _)) | exact (zu_o (by first | assumption | exact Ne.symm (by assumption)) (by assumption)) | exact (zu_o (by first | assumption | exact Ne.symm (by assumption)) (zu_o (by first | assumption | exact Ne.symm (by assumption)) (zu_s _ _ _))) | exact (zu_o (by first | assumption | exact Ne.symm (by assumption)) (zu_o (by first | assumption | exact Ne.symm (by assumption)) (by assumption))) | exact (zu_o (by first | assumption | exact Ne.symm (by assumption)) (zu_o (by first | assumption | exact Ne.symm (by assumption)) (zu_o (by first | assumption | exact Ne.symm (by assumption)) (zu_s _ _ _)))) | exact (zu_o (by first | assumption | exact Ne.symm (by assumption)) (zu_o (by first | assumption | exact Ne.symm (by assumption)) (zu_o (by first | assumption | exact Ne.symm (by assumption)) (by assumption)))) | exact (zu_o (by first | assumption | exact Ne.symm (by assumption)) (zu_o (by first | assumption | exact Ne.symm (by assumption)) (zu_o (by first | assumption | exact Ne.symm (by assumption)) (zu_o (by first | assumption | exact Ne.symm (by assumption)) (zu_s _ _ _))))) | exact (zu_o (by first | assumption | exact Ne.symm (by assumption)) (zu_o (by first | assumption | exact Ne.symm (by assumption)) (zu_o (by first | assumption | exact Ne.symm (by assumption)) (zu_o (by first | assumption | exact Ne.symm (by assumption)) (by assumption))))) | exact AL.at (by assumption) | exact EL.at (by assumption) | exact LL.at (by assumption)) rfl ?_
        refine z_iadd hX dX0_weightSum_30 ?_
        refine z_istore_n hX (lv' := [_, _, _]) (Nat.le_of_ble_eq_true rfl) (by first | exact zpre_0 | exact zpre_n rfl | exact zpre_1 rfl rfl | exact zpre_1 rfl (va_rf_c _)) rfl dX0_weightSum_31 ?_
        refine z_iinc hX (lv' := [_, _, _]) rfl (Nat.le_of_ble_eq_true rfl) (by first | exact zpre_0 | exact zpre_n rfl | exact zpre_1 rfl rfl | exact zpre_1 rfl (va_rf_c _)) rfl dX0_weightSum_32 ?_
        refine z_goto hX (tgt := 4) dX0_weightSum_35 rfl ?_
        refine ih (i + 1) _ (by omega) (by omega) (by omega) ?_
        rw [← hs]
        simp only [esum, List.map_cons, List.sum_cons]
        omega
  refine z_iconst hX dX0_weightSum_0 ?_
  refine z_istore_n hX (lv' := [_, _, _]) (Nat.le_of_ble_eq_true rfl) (by first | exact zpre_0 | exact zpre_n rfl | exact zpre_1 rfl rfl | exact zpre_1 rfl (va_rf_c _)) rfl dX0_weightSum_1 ?_
  refine z_iconst hX dX0_weightSum_2 ?_
  refine z_istore_n hX (lv' := [_, _, _]) (Nat.le_of_ble_eq_true rfl) (by first | exact zpre_0 | exact zpre_n rfl | exact zpre_1 rfl rfl | exact zpre_1 rfl (va_rf_c _)) rfl dX0_weightSum_3 ?_
  exact loop ((a 112).toNat + 1) 0 0 (by omega) (by omega) (by omega) (Int.zero_add _)
/-- the world behind an edit: the old list noted, the present one new -/
def xE1 (E : zE) (μ : zM) (x h mk tx : Nat) (tl : Int) (fo pc : Option Nat) (hs : Int) (lo hi : Int) (ro : Int → Int → Int) (row : Int → Int) (μ' : zM) : Prop := ∃ ad' it' ar' cp' rs', xC E μ' x h mk tx tl fo pc hs (if hi - lo = 12 then lo + 1 else lo) (hi + 1) ad' it' ar' cp' rs' (zf ro (hi + 1) row) ∧ zKk [0, 17, 18, 19, 104] μ μ'
theorem zf_zf {α : Type} (f : Int → α) (k : Int) (v w : α) : zf (zf f k v) k w = zf f k w := by
  funext j
  by_cases h : j = k <;> simp [zf, h]
/-- the present list changed, behind the note -/
theorem xC.upd {E : zE} {μ μ1 μ' : zM} {x h mk tx : Nat} {tl : Int} {fo pc : Option Nat} {hs : Int} {lo hi : Int} {ad it ar cp : Int → Nat} {rs : Int → List Nat} {ro : Int → Int → Int} (hC : xC E μ x h mk tx tl fo pc hs lo hi ad it ar cp rs ro) (h1 : zKp μ μ1) {b c : Nat} {r0 : List Nat} {a : Int → Int} (hn : EL E μ' (it hi) b c r0 a) (hb : (b = ar hi ∧ c = cp hi) ∨ μ1 b = none) (k : ∀ z, z ≠ it hi → z ≠ b → μ' z = μ1 z) : xC E μ' x h mk tx tl fo pc hs lo hi ad it (zf ar hi b) (zf cp hi c) (zf rs hi r0) (zf ro hi a) ∧ zKk [17, 104] μ μ' := by
  obtain ⟨hx, hLL, hHL, hsz, hO, hz⟩ := hC
  have hE := hHL.1 hi hsz.1 (Int.le_refl _)
  obtain ⟨e1, k1, k2⟩ := hE.1.k17
  have k' : ∀ z e, μ z = some e → z ≠ it hi → z ≠ b → μ' z = some e := fun z e hz n1 n2 => by rw [k z n1 n2]; exact h1 _ _ hz
  have hb' : (b = ar hi ∧ c = cp hi) ∨ μ b = none := by
    rcases hb with hb | hb
    · exact Or.inl hb
    · exact Or.inr (h1.no hb)
  have hbk : ∀ z e, μ z = some e → kd e ≠ 104 → z ≠ b := by
    intro z e hz hk
    rcases hb' with ⟨hb, -⟩ | hb
    · obtain ⟨e2, k3, k4⟩ := hE.1.k104
      rw [hb]
      exact zkne hz k3 (by rw [k4]; exact hk)
    · exact zne hz hb
  have hK : zKk [17, 104] μ μ' := fun z e hz hn => k' z e hz (zkne hz k1 (by rw [k2]; intro q; rw [q] at hn; exact hn (by decide))) (hbk z e hz (by intro q; rw [q] at hn; exact hn (by decide)))
  refine ⟨⟨hK.use hx 0 rfl (by decide), hLL.mono (fun z e hz hk => hK z e hz (by rcases hk with q | q <;> rw [q] <;> decide)), hHL.upd hsz.1 hn hb' k', hsz, hO.upd hE.1 hn.1 hb' k', fun i i0 i1 => ?_⟩, hK⟩
  by_cases q : i = hi
  · subst q
    rw [zf_s]
    rcases hb' with ⟨hb, -⟩ | hb
    · rw [hb]; exact hz _ hsz.1 (Int.le_refl _)
    · intro q
      obtain ⟨g, hg⟩ := hO.2.2
      rw [q, hg] at hb
      cases hb
  · rw [zf_n q]; exact hz i i0 i1
theorem xC.kp {E : zE} {μ μ' : zM} {x h mk tx : Nat} {tl : Int} {fo pc : Option Nat} {hs : Int} {lo hi : Int} {ad it ar cp : Int → Nat} {rs : Int → List Nat} {ro : Int → Int → Int} (hC : xC E μ x h mk tx tl fo pc hs lo hi ad it ar cp rs ro) (k : zKp μ μ') : xC E μ' x h mk tx tl fo pc hs lo hi ad it ar cp rs ro := ⟨k _ _ hC.1, hC.2.1.mono (fun z e hz _ => k z e hz), hC.2.2.1.mono (fun z e hz _ => k z e hz), hC.2.2.2.1, hC.2.2.2.2.1.mono (fun z e hz _ => k z e hz), hC.2.2.2.2.2⟩
def gw (n : Nat) : Nat := n + max 1 (n / 2)
theorem x_addE (l : Launch) (E : zE) {μ : zM} {L arr c : Nat} {rs : List Nat} {a : Int → Int} (h : EL E μ L arr c rs a) (h15 : rs.length ≤ 100) (hd : arr ≠ zs E 1) {v : Nat} {g : Int → Int} (hv : μ v = some (zed g)) : Met l yJ2_add (ws_ yJ2_add cJ2_add 2 (some .boolean)) (zR 6 1 (gw rs.length)) (va_Pc [.ref L, .ref v] (zPre E μ)) (zQb E (fun r μ' => true = r ∧ adP E μ L arr rs v c (gw rs.length) μ')) 1 (gw rs.length) (zA E) := by
  have hvL : v ≠ L := by
    obtain ⟨e, e1, e2⟩ := h.1.k17
    exact zkne hv e1 (by rw [e2]; show (2 : Nat) ≠ 17; decide)
  refine x_add l E h.1 (ci := 2) (C := RX2) (T := TX2) (N := 7) rfl q1800 hv hvL (fun μ1 hA hk hf => ⟨by unfold gw; omega, ?_⟩)
  subst hf
  refine x_growF l E rfl hA (by omega) (Or.inr hd) (C := RX2) q1800 (fun r hr => ?_)
  obtain ⟨ci, fs, T, N, m1, m2⟩ := h.el r hr
  exact ⟨ci, fs, T, N, (hk r (h.neL r hr)).trans m1, m2⟩
def gEd (f t w sl ti : Int) : Int → Int := zf (zf (zf (zf (zf (fun _ => 1) 0 f) 1 t) 2 w) 3 sl) 4 ti
theorem eNew_old {a : Int → Int} {f t w sl ti j : Int} (hn : a 112 ≤ 16) (h0 : 0 ≤ j) (h1 : j < 7 * a 112) : eNew a f t w sl ti j = a j := by
  unfold eNew
  rw [zf_n (by omega), zf_n (by omega), zf_n (by omega), zf_n (by omega), zf_n (by omega), zf_n (by omega), zf_n (by omega), zf_n (by omega)]
theorem eNew_n (a : Int → Int) (f t w sl ti : Int) : eNew a f t w sl ti 112 = a 112 + 1 := zf_s _ _ _
theorem eNew_new {a : Int → Int} {f t w sl ti : Int} (h0 : 0 ≤ a 112) (hn : a 112 ≤ 15) : eNew a f t w sl ti (7 * a 112 + 0) = f ∧ eNew a f t w sl ti (7 * a 112 + 1) = t ∧ eNew a f t w sl ti (7 * a 112 + 2) = w ∧ eNew a f t w sl ti (7 * a 112 + 3) = sl ∧ eNew a f t w sl ti (7 * a 112 + 4) = ti ∧ eNew a f t w sl ti (7 * a 112 + 5) = 1 ∧ eNew a f t w sl ti (7 * a 112 + 6) = 1 := by
  unfold eNew
  refine ⟨?_, ?_, ?_, ?_, ?_, ?_, ?_⟩
  · rw [zf_n (by omega), zf_n (by omega), zf_n (by omega), zf_n (by omega), zf_n (by omega), zf_n (by omega), zf_n (by omega), Int.add_zero, zf_s]
  · rw [zf_n (by omega), zf_n (by omega), zf_n (by omega), zf_n (by omega), zf_n (by omega), zf_n (by omega), zf_s]
  · rw [zf_n (by omega), zf_n (by omega), zf_n (by omega), zf_n (by omega), zf_n (by omega), zf_s]
  · rw [zf_n (by omega), zf_n (by omega), zf_n (by omega), zf_n (by omega), zf_s]
  · rw [zf_n (by omega), zf_n (by omega), zf_n (by omega), zf_s]
  · rw [zf_n (by omega), zf_n (by omega), zf_s]
  · rw [zf_n (by omega), zf_s]
theorem EL.snoc {E : zE} {μ μ' : zM} {L arr c b c2 v : Nat} {rs : List Nat} {a : Int → Int} (h : EL E μ L arr c rs a) (hA : AL E μ' L b c2 (rs ++ [v])) (k : ∀ z e, μ z = some e → kd e = 2 → μ' z = some e) {f t w sl ti : Int} (hv : μ' v = some (zed (gEd f t w sl ti))) (hn : a 112 ≤ 15) : EL E μ' L b c2 (rs ++ [v]) (eNew a f t w sl ti) := by
  obtain ⟨h1, h2, h3, h4⟩ := h
  refine ⟨hA, ?_, by rw [eNew_n]; omega, fun i i0 i1 => ?_⟩
  · rw [eNew_n, List.length_append, List.length_singleton]; omega
  · rw [eNew_n] at i1
    by_cases q : i = a 112
    · subst q
      refine ⟨v, ?_, ?_⟩
      · rw [List.getElem?_append_right (by omega), show (a 112).toNat - rs.length = 0 by omega]
        rfl
      · obtain ⟨z0, z1, z2, z3, z4, z5, z6⟩ := eNew_new (a := a) (f := f) (t := t) (w := w) (sl := sl) (ti := ti) i0 hn
        rw [hv]
        simp only [zed]
        rw [z0, z1, z2, z3, z4, z5, z6]
        rfl
    · obtain ⟨r, e1, e2⟩ := h4 i i0 (by omega)
      refine ⟨r, ?_, ?_⟩
      · rw [List.getElem?_append_left (by omega)]; exact e1
      · rw [k _ _ e2 rfl]
        simp only [zed]
        rw [eNew_old h3 (by omega) (by omega), eNew_old h3 (by omega) (by omega), eNew_old h3 (by omega) (by omega), eNew_old h3 (by omega) (by omega), eNew_old h3 (by omega) (by omega), eNew_old h3 (by omega) (by omega), eNew_old h3 (by omega) (by omega)]
theorem x_addEdge (l : Launch) (E : zE) {μ : zM} {x h mk tx : Nat} {tl : Int} {fo pc : Option Nat} {hs : Int} {lo hi : Int} {ad it ar cp : Int → Nat} {rs : Int → List Nat} {ro : Int → Int → Int} (hC : xC E μ x h mk tx tl fo pc hs lo hi ad it ar cp rs ro) {f t w sl ti : Int} (hf : iR f) (ht : iR t) (hw : iR w) (hsl : iR sl) (hti : iR ti) : Met l yX0_addEdge (ws_ yX0_addEdge cX0_addEdge 6 (some .int)) (zR 8 6 60) (va_Pc [.ref x, .int (zI f), .int (zI t), .int (zI w), .int (zI sl), .int (zI ti)] (zPre E μ)) (zQi E (fun r μ' => if ¬ eOK f t w sl ti then gBAD = r ∧ zKp μ μ' else if ro hi 112 = 16 then -1000004 = r ∧ zKp μ μ' else ro hi 112 = r ∧ xE1 E μ x h mk tx tl fo pc hs lo hi ro (eNew (ro hi) f t w sl ti) μ')) 6 60 (zA E) := by
  have hC0 := hC
  obtain ⟨hx, hLL, hHL, hsz, hO, hz⟩ := hC
  have hEL := hHL.1 hi hsz.1 (Int.le_refl _)
  have hlen := hEL.2.1
  have h16 := hEL.2.2.1
  refine zmet (cc := cX0_addEdge) [_, _, _, _, _, _] (by decide) (Nat.le_of_ble_eq_true rfl) rfl rfl ?_
  intro X hl hX hinit; subst hl
  have hX : zOK X _ cX0_addEdge RX0 (some .int) 6 := hX
  generalize hQ : MQ _ _ _ _ _ _ _ = Q
  have bad : ∀ μ1 lv ce sl', ce ≤ 6 → sl' ≤ 60 → zKp μ μ1 → ¬ eOK f t w sl ti → zW X (zR 8 6 60) E (μ1) ce sl' Q 43 lv [] := by
    intro μ1 lv ce sl' hce hsl' hk hn
    refine z_ldc hX (z := -1000002) q208 (by decide) dX0_addEdge_43 ?_
    (try rw [← hQ])
    refine z_ireturn hX dX0_addEdge_45 (by omega) (by omega) ?_
    rw [if_pos hn]
    exact ⟨rfl, hk⟩
  refine z_iconst hX dX0_addEdge_0 ?_
  refine z_newI hX 2 q187 dX0_addEdge_1 rfl (by decide) (by omega) (by omega) (fun q_1 f_1 => ?_)
  refine z_dup hX (by first | rfl | exact va_rf_c _) dX0_addEdge_3 ?_
  refine z_iconst hX dX0_addEdge_4 ?_
  refine z_iload_n hX rfl dX0_addEdge_5 ?_
  refine z_iastore hX dX0_addEdge_6 (by first | assumption | exact zu_s _ _ _ | exact zu_o (by assumption) (by assumption) | exact zu_o (by assumption) (zu_o (by assumption) (by assumption)) | exact (zu_o (by first | assumption | exact Ne.symm (by assumption)) (zu_s _ _ _)) | exact (zu_o (by first | assumption | exact Ne.symm (by assumption)) (by assumption)) | exact (zu_o (by first | assumption | exact Ne.symm (by assumption)) (zu_o (by first | assumption | exact Ne.symm (by assumption)) (zu_s _ _ _))) | exact (zu_o (by first | assumption | exact Ne.symm (by assumption)) (zu_o (by first | assumption | exact Ne.symm (by assumption)) (by assumption))) | exact (zu_o (by first | assumption | exact Ne.symm (by assumption)) (zu_o (by first | assumption | exact Ne.symm (by assumption)) (zu_o (by first | assumption | exact Ne.symm (by assumption)) (zu_s _ _ _)))) | exact (zu_o (by first | assumption | exact Ne.symm (by assumption)) (zu_o (by first | assumption | exact Ne.symm (by assumption)) (zu_o (by first | assumption | exact Ne.symm (by assumption)) (by assumption)))) | exact (zu_o (by first | assumption | exact Ne.symm (by assumption)) (zu_o (by first | assumption | exact Ne.symm (by assumption)) (zu_o (by first | assumption | exact Ne.symm (by assumption)) (zu_o (by first | assumption | exact Ne.symm (by assumption)) (zu_s _ _ _))))) | exact (zu_o (by first | assumption | exact Ne.symm (by assumption)) (zu_o (by first | assumption | exact Ne.symm (by assumption)) (zu_o (by first | assumption | exact Ne.symm (by assumption)) (zu_o (by first | assumption | exact Ne.symm (by assumption)) (by assumption))))) | exact AL.at (by assumption) | exact EL.at (by assumption) | exact LL.at (by assumption)) (by omega) ?_
  refine z_dup hX (by first | rfl | exact va_rf_c _) dX0_addEdge_7 ?_
  refine z_iconst hX dX0_addEdge_8 ?_
  refine z_iload_n hX rfl dX0_addEdge_9 ?_
  refine z_iastore hX dX0_addEdge_10 (by first | assumption | exact zu_s _ _ _ | exact zu_o (by assumption) (by assumption) | exact zu_o (by assumption) (zu_o (by assumption) (by assumption)) | exact (zu_o (by first | assumption | exact Ne.symm (by assumption)) (zu_s _ _ _)) | exact (zu_o (by first | assumption | exact Ne.symm (by assumption)) (by assumption)) | exact (zu_o (by first | assumption | exact Ne.symm (by assumption)) (zu_o (by first | assumption | exact Ne.symm (by assumption)) (zu_s _ _ _))) | exact (zu_o (by first | assumption | exact Ne.symm (by assumption)) (zu_o (by first | assumption | exact Ne.symm (by assumption)) (by assumption))) | exact (zu_o (by first | assumption | exact Ne.symm (by assumption)) (zu_o (by first | assumption | exact Ne.symm (by assumption)) (zu_o (by first | assumption | exact Ne.symm (by assumption)) (zu_s _ _ _)))) | exact (zu_o (by first | assumption | exact Ne.symm (by assumption)) (zu_o (by first | assumption | exact Ne.symm (by assumption)) (zu_o (by first | assumption | exact Ne.symm (by assumption)) (by assumption)))) | exact (zu_o (by first | assumption | exact Ne.symm (by assumption)) (zu_o (by first | assumption | exact Ne.symm (by assumption)) (zu_o (by first | assumption | exact Ne.symm (by assumption)) (zu_o (by first | assumption | exact Ne.symm (by assumption)) (zu_s _ _ _))))) | exact (zu_o (by first | assumption | exact Ne.symm (by assumption)) (zu_o (by first | assumption | exact Ne.symm (by assumption)) (zu_o (by first | assumption | exact Ne.symm (by assumption)) (zu_o (by first | assumption | exact Ne.symm (by assumption)) (by assumption))))) | exact AL.at (by assumption) | exact EL.at (by assumption) | exact LL.at (by assumption)) (by omega) ?_
  refine z_callb (z_runS hX (x_areNodes _ _ (zu_s _ _ _) (by decide) (zf_iR (zf_iR (fun _ => by unfold iR; omega) hf) ht)) (va_cwS 1 hX.ts (lw_S q193 q194 q65 q195) rfl rfl rfl (by decide +kernel) (zroom (by decide) (by decide))) dX0_addEdge_11 rfl rfl rfl (by first | exact Nat.le_of_ble_eq_true rfl | simp [va_rf_c, Value.category]) (zhf (by omega) (by omega))) (fun r_11 μ_11 h_11 => ?_)
  obtain ⟨rfl, rfl⟩ := h_11; rw [nd2]
  refine z_if_eq_b hX dX0_addEdge_14 (tgt := 43) rfl (fun h_14 => ?_) (fun h_14 => ?_)
  · have hn : ¬ ((0 ≤ f ∧ f ≤ 7) ∧ 0 ≤ t ∧ t ≤ 7) := fun q => by rw [decide_eq_true q.1, decide_eq_true q.2] at h_14; cases h_14
    exact bad _ _ _ _ (by omega) (by omega) ((((zKp.rf μ).nu f_1 _).nu f_1 _).nu f_1 _) (fun q => hn ⟨q.1, q.2.1⟩)
  · have hn : (0 ≤ f ∧ f ≤ 7) ∧ 0 ≤ t ∧ t ≤ 7 := by
      rw [Bool.and_eq_true] at h_14
      exact ⟨of_decide_eq_true h_14.1, of_decide_eq_true h_14.2⟩
    have hk1 : zKp μ (zu (zu (zu μ q_1 (zai E 2 (fun _ => 0))) q_1 (zai E 2 (zf (fun _ => 0) 0 f))) q_1 (zai E 2 (zf (zf (fun _ => 0) 0 f) 1 t))) := (((zKp.rf μ).nu f_1 _).nu f_1 _).nu f_1 _
    generalize hμ1 : zu (zu (zu μ q_1 (zai E 2 (fun _ => 0))) q_1 (zai E 2 (zf (fun _ => 0) 0 f))) q_1 (zai E 2 (zf (zf (fun _ => 0) 0 f) 1 t)) = μ1 at hk1
    refine z_iconst hX dX0_addEdge_17 ?_
    refine z_iload_n hX rfl dX0_addEdge_18 ?_
    refine z_callb (z_runS hX (x_fits _ _ _ (by omega) hw) (va_cwS 2 hX.ts (lw_S q200 q201 q72 q202) rfl rfl rfl (by decide +kernel) (zroom (by decide) (by decide))) dX0_addEdge_19 rfl rfl rfl (by first | exact Nat.le_of_ble_eq_true rfl | simp [va_rf_c, Value.category]) (zhf (by omega) (by omega))) (fun r_19 μ_19 h_19 => ?_)
    obtain ⟨rfl, rfl⟩ := h_19
    refine z_if_eq_b hX dX0_addEdge_22 (tgt := 43) rfl (fun h_22 => ?_) (fun h_22 => ?_)
    · have hn2 := of_decide_eq_false h_22
      exact bad _ _ _ _ (by omega) (by omega) hk1 (fun q => hn2 (by omega))
    · have hn2 := of_decide_eq_true h_22
      refine z_iconst hX dX0_addEdge_25 ?_
      refine z_iload hX rfl dX0_addEdge_26 ?_
      refine z_callb (z_runS hX (x_fits _ _ _ (by omega) hsl) (va_cwS 2 hX.ts (lw_S q200 q201 q72 q202) rfl rfl rfl (by decide +kernel) (zroom (by decide) (by decide))) dX0_addEdge_28 rfl rfl rfl (by first | exact Nat.le_of_ble_eq_true rfl | simp [va_rf_c, Value.category]) (zhf (by omega) (by omega))) (fun r_28 μ_28 h_28 => ?_)
      obtain ⟨rfl, rfl⟩ := h_28
      refine z_if_eq_b hX dX0_addEdge_31 (tgt := 43) rfl (fun h_31 => ?_) (fun h_31 => ?_)
      · have hn3 := of_decide_eq_false h_31
        exact bad _ _ _ _ (by omega) (by omega) hk1 (fun q => hn3 (by omega))
      · have hn3 := of_decide_eq_true h_31
        refine z_iconst hX dX0_addEdge_34 ?_
        refine z_iload hX rfl dX0_addEdge_35 ?_
        refine z_callb (z_runS hX (x_fits _ _ _ (by omega) hti) (va_cwS 2 hX.ts (lw_S q200 q201 q72 q202) rfl rfl rfl (by decide +kernel) (zroom (by decide) (by decide))) dX0_addEdge_37 rfl rfl rfl (by first | exact Nat.le_of_ble_eq_true rfl | simp [va_rf_c, Value.category]) (zhf (by omega) (by omega))) (fun r_37 μ_37 h_37 => ?_)
        obtain ⟨rfl, rfl⟩ := h_37
        refine z_if_ne_b hX dX0_addEdge_40 (tgt := 46) rfl (fun h_40 => ?_) (fun h_40 => ?_)
        · have hn4 := of_decide_eq_true h_40
          have hok : eOK f t w sl ti := ⟨hn.1, hn.2, by omega, by omega, by omega⟩
          have hx1 := hk1 _ _ hx
          have hE1 := hEL.mono (fun z e hz _ => hk1 z e hz)
          refine z_aload_n hX rfl (by first | rfl | exact va_rf_r _) dX0_addEdge_46 ?_
          refine z_get hX (C := RX0) (T := TX0) (N := 8) (ci := 0) rfl in_X0 0 (by decide) q159 (Or.inl rfl) dX0_addEdge_47 (by first | assumption | exact zu_s _ _ _ | exact zu_o (by assumption) (by assumption) | exact zu_o (by assumption) (zu_o (by assumption) (by assumption)) | exact (zu_o (by first | assumption | exact Ne.symm (by assumption)) (zu_s _ _ _)) | exact (zu_o (by first | assumption | exact Ne.symm (by assumption)) (by assumption)) | exact (zu_o (by first | assumption | exact Ne.symm (by assumption)) (zu_o (by first | assumption | exact Ne.symm (by assumption)) (zu_s _ _ _))) | exact (zu_o (by first | assumption | exact Ne.symm (by assumption)) (zu_o (by first | assumption | exact Ne.symm (by assumption)) (by assumption))) | exact (zu_o (by first | assumption | exact Ne.symm (by assumption)) (zu_o (by first | assumption | exact Ne.symm (by assumption)) (zu_o (by first | assumption | exact Ne.symm (by assumption)) (zu_s _ _ _)))) | exact (zu_o (by first | assumption | exact Ne.symm (by assumption)) (zu_o (by first | assumption | exact Ne.symm (by assumption)) (zu_o (by first | assumption | exact Ne.symm (by assumption)) (by assumption)))) | exact (zu_o (by first | assumption | exact Ne.symm (by assumption)) (zu_o (by first | assumption | exact Ne.symm (by assumption)) (zu_o (by first | assumption | exact Ne.symm (by assumption)) (zu_o (by first | assumption | exact Ne.symm (by assumption)) (zu_s _ _ _))))) | exact (zu_o (by first | assumption | exact Ne.symm (by assumption)) (zu_o (by first | assumption | exact Ne.symm (by assumption)) (zu_o (by first | assumption | exact Ne.symm (by assumption)) (zu_o (by first | assumption | exact Ne.symm (by assumption)) (by assumption))))) | exact AL.at (by assumption) | exact EL.at (by assumption) | exact LL.at (by assumption)) rfl ?_
          refine z_calli (z_runV hX (x_size _ _ hE1.1) (cwV 0 hX.ts (lw_V q209 q210 q211 q68 q212) rfl rfl rfl (by decide +kernel) (zroom (by decide) (by decide))) dX0_addEdge_50 (by first | assumption | exact zu_s _ _ _ | exact zu_o (by assumption) (by assumption) | exact zu_o (by assumption) (zu_o (by assumption) (by assumption)) | exact (zu_o (by first | assumption | exact Ne.symm (by assumption)) (zu_s _ _ _)) | exact (zu_o (by first | assumption | exact Ne.symm (by assumption)) (by assumption)) | exact (zu_o (by first | assumption | exact Ne.symm (by assumption)) (zu_o (by first | assumption | exact Ne.symm (by assumption)) (zu_s _ _ _))) | exact (zu_o (by first | assumption | exact Ne.symm (by assumption)) (zu_o (by first | assumption | exact Ne.symm (by assumption)) (by assumption))) | exact (zu_o (by first | assumption | exact Ne.symm (by assumption)) (zu_o (by first | assumption | exact Ne.symm (by assumption)) (zu_o (by first | assumption | exact Ne.symm (by assumption)) (zu_s _ _ _)))) | exact (zu_o (by first | assumption | exact Ne.symm (by assumption)) (zu_o (by first | assumption | exact Ne.symm (by assumption)) (zu_o (by first | assumption | exact Ne.symm (by assumption)) (by assumption)))) | exact (zu_o (by first | assumption | exact Ne.symm (by assumption)) (zu_o (by first | assumption | exact Ne.symm (by assumption)) (zu_o (by first | assumption | exact Ne.symm (by assumption)) (zu_o (by first | assumption | exact Ne.symm (by assumption)) (zu_s _ _ _))))) | exact (zu_o (by first | assumption | exact Ne.symm (by assumption)) (zu_o (by first | assumption | exact Ne.symm (by assumption)) (zu_o (by first | assumption | exact Ne.symm (by assumption)) (zu_o (by first | assumption | exact Ne.symm (by assumption)) (by assumption))))) | exact AL.at (by assumption) | exact EL.at (by assumption) | exact LL.at (by assumption)) (ci := 17) rfl rfl rfl rfl (by first | exact Nat.le_of_ble_eq_true rfl | simp [va_rf_c, Value.category]) (zhf (by omega) (by omega))) (fun r_50 μ_50 h_50 => ?_)
          obtain ⟨rfl, rfl⟩ := h_50
          refine z_bipush hX (by decide) dX0_addEdge_53 ?_
          refine z_icmp_ne hX (by omega) (by omega) dX0_addEdge_55 (tgt := 61) rfl (fun h_55 => ?_) (fun h_55 => ?_)
          · have h15 : ro hi 112 ≤ 15 := by omega
            have hgw : gw (rs hi).length ≤ 24 := by unfold gw; omega
            refine z_aload_n hX rfl (by first | rfl | exact va_rf_r _) dX0_addEdge_61 ?_
            refine z_callv (z_runV hX (x_note _ _ (hC0.kp hk1)) (cwV 0 hX.ts (lw_V q214 q216 qs0 q65 q217) rfl rfl rfl (by decide +kernel) (zroom (by decide) (by decide))) dX0_addEdge_62 (by first | assumption | exact zu_s _ _ _ | exact zu_o (by assumption) (by assumption) | exact zu_o (by assumption) (zu_o (by assumption) (by assumption)) | exact (zu_o (by first | assumption | exact Ne.symm (by assumption)) (zu_s _ _ _)) | exact (zu_o (by first | assumption | exact Ne.symm (by assumption)) (by assumption)) | exact (zu_o (by first | assumption | exact Ne.symm (by assumption)) (zu_o (by first | assumption | exact Ne.symm (by assumption)) (zu_s _ _ _))) | exact (zu_o (by first | assumption | exact Ne.symm (by assumption)) (zu_o (by first | assumption | exact Ne.symm (by assumption)) (by assumption))) | exact (zu_o (by first | assumption | exact Ne.symm (by assumption)) (zu_o (by first | assumption | exact Ne.symm (by assumption)) (zu_o (by first | assumption | exact Ne.symm (by assumption)) (zu_s _ _ _)))) | exact (zu_o (by first | assumption | exact Ne.symm (by assumption)) (zu_o (by first | assumption | exact Ne.symm (by assumption)) (zu_o (by first | assumption | exact Ne.symm (by assumption)) (by assumption)))) | exact (zu_o (by first | assumption | exact Ne.symm (by assumption)) (zu_o (by first | assumption | exact Ne.symm (by assumption)) (zu_o (by first | assumption | exact Ne.symm (by assumption)) (zu_o (by first | assumption | exact Ne.symm (by assumption)) (zu_s _ _ _))))) | exact (zu_o (by first | assumption | exact Ne.symm (by assumption)) (zu_o (by first | assumption | exact Ne.symm (by assumption)) (zu_o (by first | assumption | exact Ne.symm (by assumption)) (zu_o (by first | assumption | exact Ne.symm (by assumption)) (by assumption))))) | exact AL.at (by assumption) | exact EL.at (by assumption) | exact LL.at (by assumption)) (ci := 0) rfl rfl rfl rfl (by first | exact Nat.le_of_ble_eq_true rfl | simp [va_rf_c, Value.category]) (zhf (by omega) (by omega))) (fun μ_62 h_62 => ?_)
            obtain ⟨qL, b, qn, hC2, hK2⟩ := h_62
            have hC2' := hC2
            obtain ⟨hx2, hLL2, hHL2, hsz2, hO2, hz2⟩ := hC2
            have hE2 := hHL2.1 (hi + 1) hsz2.1 (Int.le_refl _)
            have hb2 := hz2 (hi + 1) hsz2.1 (Int.le_refl _)
            simp only [zf_s] at hx2 hE2 hb2
            refine z_aload_n hX rfl (by first | rfl | exact va_rf_r _) dX0_addEdge_65 ?_
            refine z_get hX (C := RX0) (T := TX0) (N := 8) (ci := 0) rfl in_X0 0 (by decide) q159 (Or.inl rfl) dX0_addEdge_66 (by first | assumption | exact zu_s _ _ _ | exact zu_o (by assumption) (by assumption) | exact zu_o (by assumption) (zu_o (by assumption) (by assumption)) | exact (zu_o (by first | assumption | exact Ne.symm (by assumption)) (zu_s _ _ _)) | exact (zu_o (by first | assumption | exact Ne.symm (by assumption)) (by assumption)) | exact (zu_o (by first | assumption | exact Ne.symm (by assumption)) (zu_o (by first | assumption | exact Ne.symm (by assumption)) (zu_s _ _ _))) | exact (zu_o (by first | assumption | exact Ne.symm (by assumption)) (zu_o (by first | assumption | exact Ne.symm (by assumption)) (by assumption))) | exact (zu_o (by first | assumption | exact Ne.symm (by assumption)) (zu_o (by first | assumption | exact Ne.symm (by assumption)) (zu_o (by first | assumption | exact Ne.symm (by assumption)) (zu_s _ _ _)))) | exact (zu_o (by first | assumption | exact Ne.symm (by assumption)) (zu_o (by first | assumption | exact Ne.symm (by assumption)) (zu_o (by first | assumption | exact Ne.symm (by assumption)) (by assumption)))) | exact (zu_o (by first | assumption | exact Ne.symm (by assumption)) (zu_o (by first | assumption | exact Ne.symm (by assumption)) (zu_o (by first | assumption | exact Ne.symm (by assumption)) (zu_o (by first | assumption | exact Ne.symm (by assumption)) (zu_s _ _ _))))) | exact (zu_o (by first | assumption | exact Ne.symm (by assumption)) (zu_o (by first | assumption | exact Ne.symm (by assumption)) (zu_o (by first | assumption | exact Ne.symm (by assumption)) (zu_o (by first | assumption | exact Ne.symm (by assumption)) (by assumption))))) | exact AL.at (by assumption) | exact EL.at (by assumption) | exact LL.at (by assumption)) rfl ?_
            refine z_new hX (C := RX2) (T := TX2) (N := 7) (ci := 2) rfl in_X2 tyX2 tyX2_ok q325 q326 q72 dX0_addEdge_69 (fs := [.int (zI 0), .int (zI 0), .int (zI 0), .int (zI 0), .int (zI 0), .int (zI 0), .int (zI 0)]) (by decide) (by omega) (by omega) (fun q_69 f_69 => ?_)
            have hk3 : zKp μ_62 (zu μ_62 q_69 (zed (gEd f t w sl ti))) := (zKp.rf _).nu f_69 _
            have hI := x_edI5 (zXl X) E (zu_s μ_62 q_69 (zed (fun _ => 0))) (g := gEd f t w sl ti) rfl rfl
            rw [show gEd f t w sl ti 0 = f from rfl, show gEd f t w sl ti 1 = t from rfl, show gEd f t w sl ti 2 = w from rfl, show gEd f t w sl ti 3 = sl from rfl, show gEd f t w sl ti 4 = ti from rfl] at hI
            have hE3 := hE2.mono (fun z e hz _ => hk3 z e hz)
            refine z_dup hX (by first | rfl | exact va_rf_c _) dX0_addEdge_72 ?_
            refine z_iload_n hX rfl dX0_addEdge_73 ?_
            refine z_iload_n hX rfl dX0_addEdge_74 ?_
            refine z_iload_n hX rfl dX0_addEdge_75 ?_
            refine z_iload hX rfl dX0_addEdge_76 ?_
            refine z_iload hX rfl dX0_addEdge_78 ?_
            refine z_callv (z_runI hX (hI) (cwI 5 hX.ts (lw_meth q329) rfl rfl rfl (hX.t q72) (hX.t q327) (hX.t q328) rfl (by decide +kernel) (zroom (by decide) (by decide))) dX0_addEdge_80 rfl rfl rfl (by first | exact Nat.le_of_ble_eq_true rfl | simp [va_rf_c, Value.category]) (zhf (by omega) (by omega))) (fun μ_80 h_80 => ?_)
            obtain rfl := h_80; rw [zu_zu]
            refine z_callb (z_runV hX (x_addE _ _ hE3 (by omega) hb2 (zu_s _ _ _)) (cwV 1 hX.ts (lw_V q375 q376 q377 q68 q378) rfl rfl rfl (by decide +kernel) (zroom (by decide) (by decide))) dX0_addEdge_83 (by first | assumption | exact zu_s _ _ _ | exact zu_o (by assumption) (by assumption) | exact zu_o (by assumption) (zu_o (by assumption) (by assumption)) | exact (zu_o (by first | assumption | exact Ne.symm (by assumption)) (zu_s _ _ _)) | exact (zu_o (by first | assumption | exact Ne.symm (by assumption)) (by assumption)) | exact (zu_o (by first | assumption | exact Ne.symm (by assumption)) (zu_o (by first | assumption | exact Ne.symm (by assumption)) (zu_s _ _ _))) | exact (zu_o (by first | assumption | exact Ne.symm (by assumption)) (zu_o (by first | assumption | exact Ne.symm (by assumption)) (by assumption))) | exact (zu_o (by first | assumption | exact Ne.symm (by assumption)) (zu_o (by first | assumption | exact Ne.symm (by assumption)) (zu_o (by first | assumption | exact Ne.symm (by assumption)) (zu_s _ _ _)))) | exact (zu_o (by first | assumption | exact Ne.symm (by assumption)) (zu_o (by first | assumption | exact Ne.symm (by assumption)) (zu_o (by first | assumption | exact Ne.symm (by assumption)) (by assumption)))) | exact (zu_o (by first | assumption | exact Ne.symm (by assumption)) (zu_o (by first | assumption | exact Ne.symm (by assumption)) (zu_o (by first | assumption | exact Ne.symm (by assumption)) (zu_o (by first | assumption | exact Ne.symm (by assumption)) (zu_s _ _ _))))) | exact (zu_o (by first | assumption | exact Ne.symm (by assumption)) (zu_o (by first | assumption | exact Ne.symm (by assumption)) (zu_o (by first | assumption | exact Ne.symm (by assumption)) (zu_o (by first | assumption | exact Ne.symm (by assumption)) (by assumption))))) | exact AL.at (by assumption) | exact EL.at (by assumption) | exact LL.at (by assumption)) (ci := 17) rfl rfl rfl rfl (by first | exact Nat.le_of_ble_eq_true rfl | simp [va_rf_c, Value.category]) (zhf (by omega) (by omega))) (fun r_83 μ_83 h_83 => ?_)
            obtain ⟨rfl, b2, c2, p1, p2, p3, p4⟩ := h_83
            refine z_pop hX (by first | rfl | exact va_rf_c _) dX0_addEdge_86 ?_
            have hE4 := hE3.snoc p3 (fun z e hz hk => by
              rw [p4 z ?_ ?_]
              · exact hz
              · obtain ⟨e1, e2, e3⟩ := hE3.1.k17
                exact zkne hz e2 (by rw [hk, e3]; decide)
              · rcases p1 with ⟨p1, -⟩ | p1
                · obtain ⟨e1, e2, e3⟩ := hE3.1.k104
                  rw [p1]
                  exact zkne hz e2 (by rw [hk, e3]; decide)
                · exact zne hz p1) (f := f) (t := t) (w := w) (sl := sl) (ti := ti) (by
              rw [p4 q_69 ?_ ?_]
              · exact zu_s _ _ _
              · obtain ⟨e1, e2, e3⟩ := hE3.1.k17
                exact zkne (zu_s μ_62 q_69 (zed (gEd f t w sl ti))) e2 (by rw [e3]; show (2 : Nat) ≠ 17; decide)
              · rcases p1 with ⟨p1, -⟩ | p1
                · obtain ⟨e1, e2, e3⟩ := hE3.1.k104
                  rw [p1]
                  exact zkne (zu_s μ_62 q_69 (zed (gEd f t w sl ti))) e2 (by rw [e3]; show (2 : Nat) ≠ 104; decide)
                · exact zne (zu_s _ _ _) p1) h15
            obtain ⟨hC4, hK4⟩ := hC2'.upd hk3 (by rw [zf_s]; exact hE4) (by rw [zf_s, zf_s]; exact p1) (by rw [zf_s]; exact p4)
            simp only [zf_zf] at hC4
            have hx4 := hC4.1
            rw [zf_s] at hx4
            refine z_aload_n hX rfl (by first | rfl | exact va_rf_r _) dX0_addEdge_87 ?_
            refine z_get hX (C := RX0) (T := TX0) (N := 8) (ci := 0) rfl in_X0 0 (by decide) q159 (Or.inl rfl) dX0_addEdge_88 (by first | assumption | exact zu_s _ _ _ | exact zu_o (by assumption) (by assumption) | exact zu_o (by assumption) (zu_o (by assumption) (by assumption)) | exact (zu_o (by first | assumption | exact Ne.symm (by assumption)) (zu_s _ _ _)) | exact (zu_o (by first | assumption | exact Ne.symm (by assumption)) (by assumption)) | exact (zu_o (by first | assumption | exact Ne.symm (by assumption)) (zu_o (by first | assumption | exact Ne.symm (by assumption)) (zu_s _ _ _))) | exact (zu_o (by first | assumption | exact Ne.symm (by assumption)) (zu_o (by first | assumption | exact Ne.symm (by assumption)) (by assumption))) | exact (zu_o (by first | assumption | exact Ne.symm (by assumption)) (zu_o (by first | assumption | exact Ne.symm (by assumption)) (zu_o (by first | assumption | exact Ne.symm (by assumption)) (zu_s _ _ _)))) | exact (zu_o (by first | assumption | exact Ne.symm (by assumption)) (zu_o (by first | assumption | exact Ne.symm (by assumption)) (zu_o (by first | assumption | exact Ne.symm (by assumption)) (by assumption)))) | exact (zu_o (by first | assumption | exact Ne.symm (by assumption)) (zu_o (by first | assumption | exact Ne.symm (by assumption)) (zu_o (by first | assumption | exact Ne.symm (by assumption)) (zu_o (by first | assumption | exact Ne.symm (by assumption)) (zu_s _ _ _))))) | exact (zu_o (by first | assumption | exact Ne.symm (by assumption)) (zu_o (by first | assumption | exact Ne.symm (by assumption)) (zu_o (by first | assumption | exact Ne.symm (by assumption)) (zu_o (by first | assumption | exact Ne.symm (by assumption)) (by assumption))))) | exact AL.at (by assumption) | exact EL.at (by assumption) | exact LL.at (by assumption)) rfl ?_
            refine z_calli (z_runV hX (x_size _ _ hE4.1) (cwV 0 hX.ts (lw_V q209 q210 q211 q68 q212) rfl rfl rfl (by decide +kernel) (zroom (by decide) (by decide))) dX0_addEdge_91 (by first | assumption | exact zu_s _ _ _ | exact zu_o (by assumption) (by assumption) | exact zu_o (by assumption) (zu_o (by assumption) (by assumption)) | exact (zu_o (by first | assumption | exact Ne.symm (by assumption)) (zu_s _ _ _)) | exact (zu_o (by first | assumption | exact Ne.symm (by assumption)) (by assumption)) | exact (zu_o (by first | assumption | exact Ne.symm (by assumption)) (zu_o (by first | assumption | exact Ne.symm (by assumption)) (zu_s _ _ _))) | exact (zu_o (by first | assumption | exact Ne.symm (by assumption)) (zu_o (by first | assumption | exact Ne.symm (by assumption)) (by assumption))) | exact (zu_o (by first | assumption | exact Ne.symm (by assumption)) (zu_o (by first | assumption | exact Ne.symm (by assumption)) (zu_o (by first | assumption | exact Ne.symm (by assumption)) (zu_s _ _ _)))) | exact (zu_o (by first | assumption | exact Ne.symm (by assumption)) (zu_o (by first | assumption | exact Ne.symm (by assumption)) (zu_o (by first | assumption | exact Ne.symm (by assumption)) (by assumption)))) | exact (zu_o (by first | assumption | exact Ne.symm (by assumption)) (zu_o (by first | assumption | exact Ne.symm (by assumption)) (zu_o (by first | assumption | exact Ne.symm (by assumption)) (zu_o (by first | assumption | exact Ne.symm (by assumption)) (zu_s _ _ _))))) | exact (zu_o (by first | assumption | exact Ne.symm (by assumption)) (zu_o (by first | assumption | exact Ne.symm (by assumption)) (zu_o (by first | assumption | exact Ne.symm (by assumption)) (zu_o (by first | assumption | exact Ne.symm (by assumption)) (by assumption))))) | exact AL.at (by assumption) | exact EL.at (by assumption) | exact LL.at (by assumption)) (ci := 17) rfl rfl rfl rfl (by first | exact Nat.le_of_ble_eq_true rfl | simp [va_rf_c, Value.category]) (zhf (by omega) (by omega))) (fun r_91 μ_91 h_91 => ?_)
            obtain ⟨rfl, rfl⟩ := h_91
            refine z_iconst hX dX0_addEdge_94 ?_
            refine z_isub hX dX0_addEdge_95 ?_
            (try rw [← hQ])
            refine z_ireturn hX dX0_addEdge_96 (by omega) (by omega) ?_
            rw [if_neg (fun q => q hok), if_neg (by omega)]
            refine ⟨?_, _, _, _, _, _, hC4, ((hk1.k _).tr (hK2.mono (by decide))).tr (hK4.mono (by decide))⟩
            rw [List.length_append, List.length_singleton]
            omega
          · refine z_ldc hX (z := -1000004) q213 (by decide) dX0_addEdge_58 ?_
            (try rw [← hQ])
            refine z_ireturn hX dX0_addEdge_60 (by omega) (by omega) ?_
            rw [if_neg (fun q => q hok), if_pos (by omega)]
            exact ⟨rfl, hk1⟩
        · have hn4 := of_decide_eq_false h_40
          exact bad _ _ _ _ (by omega) (by omega) hk1 (fun q => hn4 (by omega))
