/-! X SIDE 44: the reader's edge -/
set_option maxRecDepth 100000
theorem tk_t {L : Int} {Y : Int → Int} {p c : Int} (h : cAt L Y p = c) : pTk L Y (p, -1000001) c = true ∧ pTkS L Y (p, -1000001) c = (blk L Y (p + 1), -1000001) := by
  have h1 : pTk L Y (p, -1000001) c = true := decide_eq_true ⟨rfl, h⟩
  unfold pTkS
  rw [h1]
  exact ⟨rfl, rfl⟩
theorem tk_f {L : Int} {Y : Int → Int} {p c : Int} (h : cAt L Y p ≠ c) : pTk L Y (p, -1000001) c = false ∧ pTkS L Y (p, -1000001) c = (p, -1000001) := by
  have h1 : pTk L Y (p, -1000001) c = false := decide_eq_false (fun z => h z.2)
  unfold pTkS
  rw [h1]
  exact ⟨rfl, rfl⟩
theorem on_t {L : Int} {Y : Int → Int} {p lo hi : Int} (h : lo ≤ cAt L Y p ∧ cAt L Y p ≤ hi) : pOn L Y (p, -1000001) lo hi = cAt L Y p ∧ pOnS L Y (p, -1000001) lo hi = (blk L Y (p + 1), -1000001) := ⟨if_pos ⟨rfl, h⟩, if_pos ⟨rfl, h⟩⟩
theorem on_f {L : Int} {Y : Int → Int} {p lo hi : Int} (h : ¬ (lo ≤ cAt L Y p ∧ cAt L Y p ≤ hi)) : pOnS L Y (p, -1000001) lo hi = (p, p) := if_neg (fun z => h z.2)
/-- an edge read part by part -/
def rdG5 (L : Int) (Y : Int → Int) (v0 v1 v2 v3 v4 : Int) (q : pSt) : rdV × pSt := ((v0, v1, v2, v3, v4, (eRt L Y q).1.1, (eRt L Y q).1.2), eT5 L Y q)
def rdG4 (L : Int) (Y : Int → Int) (v0 v1 v2 v3 : Int) (q : pSt) : rdV × pSt := rdG5 L Y v0 v1 v2 v3 (eSl L Y q).1 (eSl L Y q).2
def rdG3 (L : Int) (Y : Int → Int) (v0 v1 v2 : Int) (q : pSt) : rdV × pSt := rdG4 L Y v0 v1 v2 (eTm L Y q).1 (eTm L Y q).2
def rdG2 (L : Int) (Y : Int → Int) (v0 v1 : Int) (q : pSt) : rdV × pSt := rdG3 L Y v0 v1 (eWt L Y q).1 (eWt L Y q).2
def rdG1 (L : Int) (Y : Int → Int) (v0 : Int) (q : pSt) : rdV × pSt := rdG2 L Y v0 (eNd L Y q).1 (eNd L Y q).2
theorem rdF_G (L : Int) (Y : Int → Int) (q : pSt) : rdF L Y q = rdG1 L Y (eNd L Y q).1 (eNd L Y q).2 := rfl
theorem blk_rr {L : Int} {Y : Int → Int} (hL : 0 ≤ L) {p : Int} (h0 : 0 ≤ p) (h1 : p ≤ L) : 0 ≤ blk L Y p ∧ blk L Y p ≤ L := by
  have := blk_le (Y := Y) hL 151 p h0
  unfold blk
  omega
/-- the edge's values -/
def edV (gd : Int → Int) (v : rdV) : Prop := gd 0 = v.1 ∧ gd 1 = v.2.1 ∧ gd 2 = v.2.2.1 ∧ gd 4 = v.2.2.2.1 ∧ gd 3 = v.2.2.2.2.1 ∧ gd 5 = v.2.2.2.2.2.1 ∧ gd 6 = v.2.2.2.2.2.2
theorem pNuS_1 {L : Int} {Y : Int → Int} (hL : 0 ≤ L ∧ L ≤ 150) {p lo hi : Int} (h0 : 0 ≤ p ∧ p ≤ L) : 0 ≤ (pNuS L Y (p, -1000001) lo hi).1 ∧ (pNuS L Y (p, -1000001) lo hi).1 ≤ L := (pNuS_v (X := Y) (lo := lo) (hi := hi) hL.2 (q := (p, -1000001)) ⟨h0, Or.inl rfl⟩).1
theorem x_rdEdge (l : Launch) (E : zE) {μ : zM} {g rl x tx : Nat} {L : Int} {Y : Int → Int} {p0 : Int} (h : RD E μ g rl x tx L Y p0) (hp0 : 0 ≤ p0 ∧ p0 ≤ L) {arr c : Nat} {rs : List Nat} (hA : AL E μ rl arr c rs) (h16 : rs.length ≤ 16) : zyMet l yX3_edge (ws_ yX3_edge cX3_edge 8 (some (.object "RatioGraph$Edge"))) (zR 8 24 160) (va_Pc [.ref g] (zPre E μ)) (zQq E (fun r μ' => rs.length < 16 ∧ (rdF L Y (p0, -1000001)).2.2 = -1000001 ∧ (∃ b gd, r = some b ∧ μ b = none ∧ μ' b = some (zed gd) ∧ edV gd (rdF L Y (p0, -1000001)).1) ∧ zKx [g] μ μ' ∧ μ' g = some (zrd (rdF L Y (p0, -1000001)).2.1 rl x))) E (fun q μ' => ∃ w, (0 ≤ w ∧ w ≤ L) ∧ ((rs.length = 16 ∧ w = p0) ∨ (rs.length < 16 ∧ (rdF L Y (p0, -1000001)).2.2 = w)) ∧ μ' q = some (zTF w) ∧ zKx [g] μ μ') 24 160 := by
  have hL := h.2.2.2.1
  have hw := h.1
  have hY := h.2.2.2
  generalize hV : rdF L Y (p0, -1000001) = V
  rw [rdF_G] at hV
  refine zymet (cc := cX3_edge) [_, _, _, _, _, _, _, _] (by decide) (Nat.le_of_ble_eq_true rfl) rfl rfl ?_
  intro X hl hX ht; subst hl
  have hX : zOK X _ cX3_edge RX3 (some (.object "RatioGraph$Edge")) 8 := hX
  generalize hQ : zyMQ _ _ _ _ _ _ = Q
  have KX : ∀ (q : Nat) (μ' : zM) (w : Int) (ce sl pc : Nat) (lv : List (Option Value)), rs.length < 16 → (0 ≤ w ∧ w ≤ L) → V.2.2 = w → μ' q = some (zTF w) → zKx [g] μ μ' → ce ≤ 24 → sl ≤ 160 → zyW X (zR 8 24 160) E μ' ce sl Q pc lv q := fun q μ' w ce sl pc lv hl hw0 hv h1 h2 h3 h4 => by
    rw [← hQ]
    exact zyout hX ht h1 ⟨w, hw0, Or.inr ⟨hl, hv⟩, h1, h2⟩ (by omega) (by omega)
  have hRD : ∀ (μ1 : zM) (pp : Int), zKx [g] μ μ1 → μ1 g = some (zrd pp rl x) → RD E μ1 g rl x tx L Y pp := fun μ1 pp hk hg => h.kx hk hg
  have J171 : ∀ (μ1 : zM) (pp : Int) (b : Nat) (gd : Int → Int) (ce sl : Nat), rs.length < 16 → zKx [g] μ μ1 → μ1 g = some (zrd pp rl x) → μ1 b = some (zed gd) → μ b = none → (0 ≤ pp ∧ pp ≤ L) → eMu L Y (pp, -1000001) 59 = V.2 → edV gd V.1 → ce ≤ 18 → sl ≤ 114 → ∀ y1 y2 y3 y4 y5 y7, zW X (zR 8 24 160) E (μ1) ce sl Q 171 [some (.ref g), y1, y2, y3, y4, y5, some (.ref b), y7] [] := by
    intro μ1 pp b gd ce sl hlt hk hg hb hbn hpp hm hgd hce hsl y1 y2 y3 y4 y5 y7
    have hR := hRD μ1 pp hk hg
    refine zW.mask [true, false, false, false, false, false, true, false] (lv' := [_, none, none, none, none, none, _, none]) rfl ?_
    refine z_aload_n hX rfl (by first | rfl | exact va_rf_r _) dX3_edge_171 ?_
    refine z_aload_n hX rfl (by first | rfl | exact va_rf_r _) dX3_edge_172 ?_
    refine z_bipush hX (by decide) dX3_edge_173 ?_
    refine z_callb (z_runV hX (x_takes (c := 59) _ _ hR hpp (by omega)) (cwV 1 hX.ts (lw_V q619 q621 qs14 q80 q622) rfl rfl rfl (by decide +kernel) (zroom (by first | decide | omega) (by decide))) dX3_edge_175 (by first | assumption | exact zu_s _ _ _ | exact zu_o (by assumption) (by assumption) | exact zu_o (by assumption) (zu_o (by assumption) (by assumption)) | exact (zu_o (by first | assumption | exact Ne.symm (by assumption)) (zu_s _ _ _)) | exact (zu_o (by first | assumption | exact Ne.symm (by assumption)) (by assumption)) | exact (zu_o (by first | assumption | exact Ne.symm (by assumption)) (zu_o (by first | assumption | exact Ne.symm (by assumption)) (zu_s _ _ _))) | exact (zu_o (by first | assumption | exact Ne.symm (by assumption)) (zu_o (by first | assumption | exact Ne.symm (by assumption)) (by assumption))) | exact (zu_o (by first | assumption | exact Ne.symm (by assumption)) (zu_o (by first | assumption | exact Ne.symm (by assumption)) (zu_o (by first | assumption | exact Ne.symm (by assumption)) (zu_s _ _ _)))) | exact (zu_o (by first | assumption | exact Ne.symm (by assumption)) (zu_o (by first | assumption | exact Ne.symm (by assumption)) (zu_o (by first | assumption | exact Ne.symm (by assumption)) (by assumption)))) | exact (zu_o (by first | assumption | exact Ne.symm (by assumption)) (zu_o (by first | assumption | exact Ne.symm (by assumption)) (zu_o (by first | assumption | exact Ne.symm (by assumption)) (zu_o (by first | assumption | exact Ne.symm (by assumption)) (zu_s _ _ _))))) | exact (zu_o (by first | assumption | exact Ne.symm (by assumption)) (zu_o (by first | assumption | exact Ne.symm (by assumption)) (zu_o (by first | assumption | exact Ne.symm (by assumption)) (zu_o (by first | assumption | exact Ne.symm (by assumption)) (by assumption))))) | exact AL.at (by assumption) | exact EL.at (by assumption) | exact LL.at (by assumption)) (ci := 3) rfl rfl rfl rfl (by first | exact Nat.le_of_ble_eq_true rfl | simp [va_rf_c, Value.category]) (zhf (by omega) (by omega))) (fun r_175 μ_175 h_175 => ?_)
    obtain ⟨hr, rfl⟩ := h_175
    have hbg : b ≠ g := zkne hb hg (by show (2 : Nat) ≠ 3; decide)
    have hk2 : zKx [g] μ (zu μ1 g (zrd (if cAt L Y pp = 59 then blk L Y (pp + 1) else pp) rl x)) := hk.put (by simp) _
    have hb2 := zu_o (e := zrd (if cAt L Y pp = 59 then blk L Y (pp + 1) else pp) rl x) hbg hb
    have kx : ∀ (q : Nat) (μ' : zM), (r_175 = false ∧ μ' q = some (zTF (if cAt L Y pp = 59 then blk L Y (pp + 1) else pp)) ∧ zKp (zu μ1 g (zrd (if cAt L Y pp = 59 then blk L Y (pp + 1) else pp) rl x)) μ') → zyW X (zR 8 24 160) E μ' (ce + 0 + 1) (sl + 0 + 7) Q 178 [some (.ref g), none, none, none, none, none, some (.ref b), none] q := fun q μ' hx => by
      obtain ⟨hx1, hx2, hx3⟩ := hx
      have hne : cAt L Y pp ≠ 59 := of_decide_eq_false (hr.trans hx1)
      rw [if_neg hne] at hx2
      refine KX q μ' pp _ _ _ _ hlt hpp ?_ hx2 (hk2.tr (hx3.x _)) (by omega) (by omega)
      rw [← hm]
      unfold eMu
      rw [(tk_f hne).1, if_neg (by decide), (tk_f hne).2]
      rfl
    refine zy_cv (zy_rV hX (x_expect _ _ (zu_s _ _ _)) (cwV 1 hX.ts (lw_V q547 q549 qs11 q80 q550) rfl rfl rfl (by decide +kernel) (zroom (by first | decide | omega) (by decide))) dX3_edge_178 (by first | assumption | exact zu_s _ _ _ | exact zu_o (by assumption) (by assumption) | exact zu_o (by assumption) (zu_o (by assumption) (by assumption)) | exact (zu_o (by first | assumption | exact Ne.symm (by assumption)) (zu_s _ _ _)) | exact (zu_o (by first | assumption | exact Ne.symm (by assumption)) (by assumption)) | exact (zu_o (by first | assumption | exact Ne.symm (by assumption)) (zu_o (by first | assumption | exact Ne.symm (by assumption)) (zu_s _ _ _))) | exact (zu_o (by first | assumption | exact Ne.symm (by assumption)) (zu_o (by first | assumption | exact Ne.symm (by assumption)) (by assumption))) | exact (zu_o (by first | assumption | exact Ne.symm (by assumption)) (zu_o (by first | assumption | exact Ne.symm (by assumption)) (zu_o (by first | assumption | exact Ne.symm (by assumption)) (zu_s _ _ _)))) | exact (zu_o (by first | assumption | exact Ne.symm (by assumption)) (zu_o (by first | assumption | exact Ne.symm (by assumption)) (zu_o (by first | assumption | exact Ne.symm (by assumption)) (by assumption)))) | exact (zu_o (by first | assumption | exact Ne.symm (by assumption)) (zu_o (by first | assumption | exact Ne.symm (by assumption)) (zu_o (by first | assumption | exact Ne.symm (by assumption)) (zu_o (by first | assumption | exact Ne.symm (by assumption)) (zu_s _ _ _))))) | exact (zu_o (by first | assumption | exact Ne.symm (by assumption)) (zu_o (by first | assumption | exact Ne.symm (by assumption)) (zu_o (by first | assumption | exact Ne.symm (by assumption)) (zu_o (by first | assumption | exact Ne.symm (by assumption)) (by assumption))))) | exact AL.at (by assumption) | exact EL.at (by assumption) | exact LL.at (by assumption)) (ci := 3) rfl rfl rfl rfl (by first | exact Nat.le_of_ble_eq_true rfl | simp [va_rf_c, Value.category]) (zhf (by omega) (by omega))) kx (fun μ_178 h_178 => ?_)
    obtain ⟨hb3, rfl⟩ := h_178
    refine z_aload hX rfl (by first | rfl | exact va_rf_r _) dX3_edge_181 ?_
    (try rw [← hQ])
    (try refine zyret ?_)
    first | refine z_areturn hX (r := some _) rfl (by first | exact Or.inl ⟨_, rfl⟩ | exact Or.inr ⟨_, rfl⟩) dX3_edge_183 (by omega) (by omega) ?_ | refine z_areturn hX (r := none) rfl (by first | exact Or.inl ⟨_, rfl⟩ | exact Or.inr ⟨_, rfl⟩) dX3_edge_183 (by omega) (by omega) ?_ | refine z_areturn hX rfl (by first | exact Or.inl ⟨_, rfl⟩ | exact Or.inr ⟨_, rfl⟩) dX3_edge_183 (by omega) (by omega) ?_
    have heq : cAt L Y pp = 59 := of_decide_eq_true (hr.trans hb3)
    have hm2 : V.2 = (blk L Y (pp + 1), -1000001) := by
      rw [← hm]
      unfold eMu
      rw [(tk_t heq).1, if_pos rfl, (tk_t heq).2]
    refine ⟨hlt, by rw [hm2], ⟨b, gd, rfl, hbn, hb2, hgd⟩, hk2, ?_⟩
    rw [hm2, zu_s, if_pos heq]
  have J133 : ∀ (μ1 : zM) (pp : Int) (b : Nat) (gd : Int → Int) (v0 v1 v2 v3 v4 : Int) (ce sl : Nat), rs.length < 16 → zKx [g] μ μ1 → μ1 g = some (zrd pp rl x) → μ1 b = some (zed gd) → μ b = none → (0 ≤ pp ∧ pp ≤ L) → rdG5 L Y v0 v1 v2 v3 v4 (pp, -1000001) = V → edV gd (v0, v1, v2, v3, v4, 1, 1) → ce ≤ 12 → sl ≤ 72 → ∀ y1 y2 y3 y4 y5 y7, zW X (zR 8 24 160) E (μ1) ce sl Q 133 [some (.ref g), y1, y2, y3, y4, y5, some (.ref b), y7] [] := by
    intro μ1 pp b gd v0 v1 v2 v3 v4 ce sl hlt hk hg hb hbn hpp hm hgd hce hsl y1 y2 y3 y4 y5 y7
    have hR := hRD μ1 pp hk hg
    have hbg : b ≠ g := zkne hb hg (by show (2 : Nat) ≠ 3; decide)
    unfold rdG5 eT5 at hm
    refine zW.mask [true, false, false, false, false, false, true, false] (lv' := [_, none, none, none, none, none, _, none]) rfl ?_
    refine z_aload_n hX rfl (by first | rfl | exact va_rf_r _) dX3_edge_133 ?_
    refine z_bipush hX (by decide) dX3_edge_134 ?_
    refine z_callb (z_runV hX (x_takes (c := 114) _ _ hR hpp (by omega)) (cwV 1 hX.ts (lw_V q619 q621 qs14 q80 q622) rfl rfl rfl (by decide +kernel) (zroom (by first | decide | omega) (by decide))) dX3_edge_136 (by first | assumption | exact zu_s _ _ _ | exact zu_o (by assumption) (by assumption) | exact zu_o (by assumption) (zu_o (by assumption) (by assumption)) | exact (zu_o (by first | assumption | exact Ne.symm (by assumption)) (zu_s _ _ _)) | exact (zu_o (by first | assumption | exact Ne.symm (by assumption)) (by assumption)) | exact (zu_o (by first | assumption | exact Ne.symm (by assumption)) (zu_o (by first | assumption | exact Ne.symm (by assumption)) (zu_s _ _ _))) | exact (zu_o (by first | assumption | exact Ne.symm (by assumption)) (zu_o (by first | assumption | exact Ne.symm (by assumption)) (by assumption))) | exact (zu_o (by first | assumption | exact Ne.symm (by assumption)) (zu_o (by first | assumption | exact Ne.symm (by assumption)) (zu_o (by first | assumption | exact Ne.symm (by assumption)) (zu_s _ _ _)))) | exact (zu_o (by first | assumption | exact Ne.symm (by assumption)) (zu_o (by first | assumption | exact Ne.symm (by assumption)) (zu_o (by first | assumption | exact Ne.symm (by assumption)) (by assumption)))) | exact (zu_o (by first | assumption | exact Ne.symm (by assumption)) (zu_o (by first | assumption | exact Ne.symm (by assumption)) (zu_o (by first | assumption | exact Ne.symm (by assumption)) (zu_o (by first | assumption | exact Ne.symm (by assumption)) (zu_s _ _ _))))) | exact (zu_o (by first | assumption | exact Ne.symm (by assumption)) (zu_o (by first | assumption | exact Ne.symm (by assumption)) (zu_o (by first | assumption | exact Ne.symm (by assumption)) (zu_o (by first | assumption | exact Ne.symm (by assumption)) (by assumption))))) | exact AL.at (by assumption) | exact EL.at (by assumption) | exact LL.at (by assumption)) (ci := 3) rfl rfl rfl rfl (by first | exact Nat.le_of_ble_eq_true rfl | simp [va_rf_c, Value.category]) (zhf (by omega) (by omega))) (fun r_136 μ_136 h_136 => ?_)
    obtain ⟨hr, rfl⟩ := h_136
    refine z_if_eq_b hX dX3_edge_139 (tgt := 171) rfl (fun h_139 => ?_) (fun h_139 => ?_)
    · have hne : cAt L Y pp ≠ 114 := of_decide_eq_false (hr.trans h_139)
      rw [if_neg hne]
      have he : eRt L Y (pp, -1000001) = ((1, 1), (pp, -1000001)) := by
        unfold eRt
        rw [(tk_f hne).1, if_neg (by decide), (tk_f hne).2]
      rw [he] at hm
      subst hm
      have e0 : zu μ1 g (zrd pp rl x) = μ1 := zu_id hg
      rw [e0]
      exact J171 μ1 pp b gd _ _ hlt hk hg hb hbn hpp rfl hgd (by omega) (by omega) _ _ _ _ _ _
    · have heq : cAt L Y pp = 114 := of_decide_eq_true (hr.trans h_139)
      rw [if_pos heq]
      have hlp := cAt_lt (L := L) (X := Y) (p := pp) (by omega)
      have hbr := blk_rr (Y := Y) hL.1 (p := pp + 1) (by omega) (by omega)
      have he : eRt L Y (pp, -1000001) = ((pNu L Y (blk L Y (pp + 1), -1000001), pNu L Y (eMu L Y (pNuS L Y (blk L Y (pp + 1), -1000001) 1 30) 47)), pNuS L Y (eMu L Y (pNuS L Y (blk L Y (pp + 1), -1000001) 1 30) 47) 1 30) := by
        unfold eRt
        rw [(tk_t heq).1, if_pos rfl, (tk_t heq).2]
      rw [he] at hm
      generalize blk L Y (pp + 1) = p1 at *
      have hk1 : zKx [g] μ (zu μ1 g (zrd p1 rl x)) := hk.put (by simp) _
      have hg1 := zu_s μ1 g (zrd p1 rl x)
      have hb1 := zu_o (e := zrd p1 rl x) hbg hb
      generalize zu μ1 g (zrd p1 rl x) = μ2 at *
      have hR1 := hRD μ2 p1 hk1 hg1
      have kx1 : ∀ (q : Nat) (μ' : zM), (∃ w, (0 ≤ w ∧ w ≤ L) ∧ (pNuS L Y (p1, -1000001) 1 30).2 = w ∧ μ' q = some (zTF w) ∧ zKx [g] μ2 μ') → zyW X (zR 8 24 160) E μ' (ce + 0 + 2) (sl + 0 + 14) Q 143 [some (.ref g), none, none, none, none, none, some (.ref b), none] q := fun q μ' hx => by
        obtain ⟨w, w1, w2, w3, w4⟩ := hx
        refine KX q μ' w _ _ _ _ hlt w1 ?_ w3 (hk1.tr w4) (by omega) (by omega)
        have hne : (pNuS L Y (p1, -1000001) 1 30).2 ≠ -1000001 := by omega
        have h1 := eMu_f (L := L) (Y := Y) (c := 47) hne
        have h2 := pNuS_f (L := L) (Y := Y) (lo := 1) (hi := 30) (q := eMu L Y (pNuS L Y (p1, -1000001) 1 30) 47) (by rw [h1]; exact hne)
        have h3 := eMu_f (L := L) (Y := Y) (c := 59) (q := pNuS L Y (eMu L Y (pNuS L Y (p1, -1000001) 1 30) 47) 1 30) (by rw [h2, h1]; exact hne)
        rw [← hm]
        show (eMu L Y (pNuS L Y (eMu L Y (pNuS L Y (p1, -1000001) 1 30) 47) 1 30) 59).2 = w
        rw [h3, h2, h1, w2]
      refine z_aload_n hX rfl (by first | rfl | exact va_rf_r _) dX3_edge_142 ?_
      refine zy_ci (zy_rV hX (x_rate _ _ hR1 hbr) (cwV 0 hX.ts (lw_V q641 q643 qs18 q80 q644) rfl rfl rfl (by decide +kernel) (zroom (by first | decide | omega) (by decide))) dX3_edge_143 (by first | assumption | exact zu_s _ _ _ | exact zu_o (by assumption) (by assumption) | exact zu_o (by assumption) (zu_o (by assumption) (by assumption)) | exact (zu_o (by first | assumption | exact Ne.symm (by assumption)) (zu_s _ _ _)) | exact (zu_o (by first | assumption | exact Ne.symm (by assumption)) (by assumption)) | exact (zu_o (by first | assumption | exact Ne.symm (by assumption)) (zu_o (by first | assumption | exact Ne.symm (by assumption)) (zu_s _ _ _))) | exact (zu_o (by first | assumption | exact Ne.symm (by assumption)) (zu_o (by first | assumption | exact Ne.symm (by assumption)) (by assumption))) | exact (zu_o (by first | assumption | exact Ne.symm (by assumption)) (zu_o (by first | assumption | exact Ne.symm (by assumption)) (zu_o (by first | assumption | exact Ne.symm (by assumption)) (zu_s _ _ _)))) | exact (zu_o (by first | assumption | exact Ne.symm (by assumption)) (zu_o (by first | assumption | exact Ne.symm (by assumption)) (zu_o (by first | assumption | exact Ne.symm (by assumption)) (by assumption)))) | exact (zu_o (by first | assumption | exact Ne.symm (by assumption)) (zu_o (by first | assumption | exact Ne.symm (by assumption)) (zu_o (by first | assumption | exact Ne.symm (by assumption)) (zu_o (by first | assumption | exact Ne.symm (by assumption)) (zu_s _ _ _))))) | exact (zu_o (by first | assumption | exact Ne.symm (by assumption)) (zu_o (by first | assumption | exact Ne.symm (by assumption)) (zu_o (by first | assumption | exact Ne.symm (by assumption)) (zu_o (by first | assumption | exact Ne.symm (by assumption)) (by assumption))))) | exact AL.at (by assumption) | exact EL.at (by assumption) | exact LL.at (by assumption)) (ci := 3) rfl rfl rfl rfl (by first | exact Nat.le_of_ble_eq_true rfl | simp [va_rf_c, Value.category]) (zhf (by omega) (by omega))) kx1 (fun r_143 μ_143 h_143 => ?_)
      obtain ⟨s1, s2, s3, s4, s5⟩ := h_143
      refine z_istore hX (lv' := [_, _, _, _, _, _, _, _]) (Nat.le_of_ble_eq_true rfl) (by first | exact zpre_0 | exact zpre_n rfl | exact zpre_1 rfl rfl | exact zpre_1 rfl (va_rf_c _)) rfl dX3_edge_146 ?_
      have hb2 := s4 _ _ hb1 (by simpa using hbg)
      have hk2 := hk1.tr s4
      have hpr := pNuS_1 (Y := Y) (lo := 1) (hi := 30) hL hbr
      have hpe : pNuS L Y (p1, -1000001) 1 30 = ((pNuS L Y (p1, -1000001) 1 30).1, -1000001) := Prod.ext rfl s1
      rw [hpe] at hm
      generalize (pNuS L Y (p1, -1000001) 1 30).1 = p2 at *
      have hR2 := hRD μ_143 p2 hk2 s5
      refine z_aload_n hX rfl (by first | rfl | exact va_rf_r _) dX3_edge_148 ?_
      refine z_aload_n hX rfl (by first | rfl | exact va_rf_r _) dX3_edge_149 ?_
      refine z_bipush hX (by decide) dX3_edge_150 ?_
      refine z_callb (z_runV hX (x_takes (c := 47) _ _ hR2 hpr (by omega)) (cwV 1 hX.ts (lw_V q619 q621 qs14 q80 q622) rfl rfl rfl (by decide +kernel) (zroom (by first | decide | omega) (by decide))) dX3_edge_152 (by first | assumption | exact zu_s _ _ _ | exact zu_o (by assumption) (by assumption) | exact zu_o (by assumption) (zu_o (by assumption) (by assumption)) | exact (zu_o (by first | assumption | exact Ne.symm (by assumption)) (zu_s _ _ _)) | exact (zu_o (by first | assumption | exact Ne.symm (by assumption)) (by assumption)) | exact (zu_o (by first | assumption | exact Ne.symm (by assumption)) (zu_o (by first | assumption | exact Ne.symm (by assumption)) (zu_s _ _ _))) | exact (zu_o (by first | assumption | exact Ne.symm (by assumption)) (zu_o (by first | assumption | exact Ne.symm (by assumption)) (by assumption))) | exact (zu_o (by first | assumption | exact Ne.symm (by assumption)) (zu_o (by first | assumption | exact Ne.symm (by assumption)) (zu_o (by first | assumption | exact Ne.symm (by assumption)) (zu_s _ _ _)))) | exact (zu_o (by first | assumption | exact Ne.symm (by assumption)) (zu_o (by first | assumption | exact Ne.symm (by assumption)) (zu_o (by first | assumption | exact Ne.symm (by assumption)) (by assumption)))) | exact (zu_o (by first | assumption | exact Ne.symm (by assumption)) (zu_o (by first | assumption | exact Ne.symm (by assumption)) (zu_o (by first | assumption | exact Ne.symm (by assumption)) (zu_o (by first | assumption | exact Ne.symm (by assumption)) (zu_s _ _ _))))) | exact (zu_o (by first | assumption | exact Ne.symm (by assumption)) (zu_o (by first | assumption | exact Ne.symm (by assumption)) (zu_o (by first | assumption | exact Ne.symm (by assumption)) (zu_o (by first | assumption | exact Ne.symm (by assumption)) (by assumption))))) | exact AL.at (by assumption) | exact EL.at (by assumption) | exact LL.at (by assumption)) (ci := 3) rfl rfl rfl rfl (by first | exact Nat.le_of_ble_eq_true rfl | simp [va_rf_c, Value.category]) (zhf (by omega) (by omega))) (fun r_152 μ_152 h_152 => ?_)
      obtain ⟨hr3, rfl⟩ := h_152
      have hk3 : zKx [g] μ (zu μ_143 g (zrd (if cAt L Y p2 = 47 then blk L Y (p2 + 1) else p2) rl x)) := hk2.put (by simp) _
      have hg3 := zu_s μ_143 g (zrd (if cAt L Y p2 = 47 then blk L Y (p2 + 1) else p2) rl x)
      have hb3 := zu_o (e := zrd (if cAt L Y p2 = 47 then blk L Y (p2 + 1) else p2) rl x) hbg hb2
      have kx2 : ∀ (q : Nat) (μ' : zM), (r_152 = false ∧ μ' q = some (zTF (if cAt L Y p2 = 47 then blk L Y (p2 + 1) else p2)) ∧ zKp (zu μ_143 g (zrd (if cAt L Y p2 = 47 then blk L Y (p2 + 1) else p2) rl x)) μ') → zyW X (zR 8 24 160) E μ' (ce + 0 + 2 + 0 + 1) (sl + 0 + 14 + 0 + 7) Q 155 [some (.ref g), none, none, none, none, none, some (.ref b), some (.int (zI r_143))] q := fun q μ' hx => by
        obtain ⟨hx1, hx2, hx3⟩ := hx
        have hne : cAt L Y p2 ≠ 47 := of_decide_eq_false (hr3.trans hx1)
        rw [if_neg hne] at hx2
        refine KX q μ' p2 _ _ _ _ hlt hpr ?_ hx2 (hk3.tr (hx3.x _)) (by omega) (by omega)
        have h0 : eMu L Y (p2, -1000001) 47 = (p2, p2) := by
          unfold eMu
          rw [(tk_f hne).1, if_neg (by decide), (tk_f hne).2]
          rfl
        rw [h0] at hm
        have hn2 : ((p2, p2) : pSt).2 ≠ -1000001 := by show p2 ≠ -1000001; omega
        have h2 := pNuS_f (L := L) (Y := Y) (lo := 1) (hi := 30) hn2
        have h3 := eMu_f (L := L) (Y := Y) (c := 59) (q := pNuS L Y (p2, p2) 1 30) (by rw [h2]; exact hn2)
        rw [← hm]
        show (eMu L Y (pNuS L Y (p2, p2) 1 30) 59).2 = p2
        rw [h3, h2]
      refine zy_cv (zy_rV hX (x_expect _ _ hg3) (cwV 1 hX.ts (lw_V q547 q549 qs11 q80 q550) rfl rfl rfl (by decide +kernel) (zroom (by first | decide | omega) (by decide))) dX3_edge_155 (by first | assumption | exact zu_s _ _ _ | exact zu_o (by assumption) (by assumption) | exact zu_o (by assumption) (zu_o (by assumption) (by assumption)) | exact (zu_o (by first | assumption | exact Ne.symm (by assumption)) (zu_s _ _ _)) | exact (zu_o (by first | assumption | exact Ne.symm (by assumption)) (by assumption)) | exact (zu_o (by first | assumption | exact Ne.symm (by assumption)) (zu_o (by first | assumption | exact Ne.symm (by assumption)) (zu_s _ _ _))) | exact (zu_o (by first | assumption | exact Ne.symm (by assumption)) (zu_o (by first | assumption | exact Ne.symm (by assumption)) (by assumption))) | exact (zu_o (by first | assumption | exact Ne.symm (by assumption)) (zu_o (by first | assumption | exact Ne.symm (by assumption)) (zu_o (by first | assumption | exact Ne.symm (by assumption)) (zu_s _ _ _)))) | exact (zu_o (by first | assumption | exact Ne.symm (by assumption)) (zu_o (by first | assumption | exact Ne.symm (by assumption)) (zu_o (by first | assumption | exact Ne.symm (by assumption)) (by assumption)))) | exact (zu_o (by first | assumption | exact Ne.symm (by assumption)) (zu_o (by first | assumption | exact Ne.symm (by assumption)) (zu_o (by first | assumption | exact Ne.symm (by assumption)) (zu_o (by first | assumption | exact Ne.symm (by assumption)) (zu_s _ _ _))))) | exact (zu_o (by first | assumption | exact Ne.symm (by assumption)) (zu_o (by first | assumption | exact Ne.symm (by assumption)) (zu_o (by first | assumption | exact Ne.symm (by assumption)) (zu_o (by first | assumption | exact Ne.symm (by assumption)) (by assumption))))) | exact AL.at (by assumption) | exact EL.at (by assumption) | exact LL.at (by assumption)) (ci := 3) rfl rfl rfl rfl (by first | exact Nat.le_of_ble_eq_true rfl | simp [va_rf_c, Value.category]) (zhf (by omega) (by omega))) kx2 (fun μ_155 h_155 => ?_)
      obtain ⟨hb4, rfl⟩ := h_155
      have heq2 : cAt L Y p2 = 47 := of_decide_eq_true (hr3.trans hb4)
      rw [if_pos heq2] at hk3 hg3 hb3 ⊢
      have hlp2 := cAt_lt (L := L) (X := Y) (p := p2) (by omega)
      have hbr2 := blk_rr (Y := Y) hL.1 (p := p2 + 1) (by omega) (by omega)
      have h0 : eMu L Y (p2, -1000001) 47 = (blk L Y (p2 + 1), -1000001) := by
        unfold eMu
        rw [(tk_t heq2).1, if_pos rfl, (tk_t heq2).2]
      rw [h0] at hm
      generalize blk L Y (p2 + 1) = p3 at *
      generalize zu μ_143 g (zrd p3 rl x) = μ3 at *
      have hR3 := hRD μ3 p3 hk3 hg3
      have kx3 : ∀ (q : Nat) (μ' : zM), (∃ w, (0 ≤ w ∧ w ≤ L) ∧ (pNuS L Y (p3, -1000001) 1 30).2 = w ∧ μ' q = some (zTF w) ∧ zKx [g] μ3 μ') → zyW X (zR 8 24 160) E μ' (ce + 0 + 2 + 0 + 1 + 2) (sl + 0 + 14 + 0 + 7 + 14) Q 163 [some (.ref g), none, none, none, none, none, some (.ref b), some (.int (zI r_143))] q := fun q μ' hx => by
        obtain ⟨w, w1, w2, w3, w4⟩ := hx
        refine KX q μ' w _ _ _ _ hlt w1 ?_ w3 (hk3.tr w4) (by omega) (by omega)
        have h3 := eMu_f (L := L) (Y := Y) (c := 59) (q := pNuS L Y (p3, -1000001) 1 30) (by rw [w2]; omega)
        rw [← hm]
        show (eMu L Y (pNuS L Y (p3, -1000001) 1 30) 59).2 = w
        rw [h3, w2]
      refine z_aload hX rfl (by first | rfl | exact va_rf_r _) dX3_edge_158 ?_
      refine z_iload hX rfl dX3_edge_160 ?_
      refine z_aload_n hX rfl (by first | rfl | exact va_rf_r _) dX3_edge_162 ?_
      refine zy_ci (zy_rV hX (x_rate _ _ hR3 hbr2) (cwV 0 hX.ts (lw_V q641 q643 qs18 q80 q644) rfl rfl rfl (by decide +kernel) (zroom (by first | decide | omega) (by decide))) dX3_edge_163 (by first | assumption | exact zu_s _ _ _ | exact zu_o (by assumption) (by assumption) | exact zu_o (by assumption) (zu_o (by assumption) (by assumption)) | exact (zu_o (by first | assumption | exact Ne.symm (by assumption)) (zu_s _ _ _)) | exact (zu_o (by first | assumption | exact Ne.symm (by assumption)) (by assumption)) | exact (zu_o (by first | assumption | exact Ne.symm (by assumption)) (zu_o (by first | assumption | exact Ne.symm (by assumption)) (zu_s _ _ _))) | exact (zu_o (by first | assumption | exact Ne.symm (by assumption)) (zu_o (by first | assumption | exact Ne.symm (by assumption)) (by assumption))) | exact (zu_o (by first | assumption | exact Ne.symm (by assumption)) (zu_o (by first | assumption | exact Ne.symm (by assumption)) (zu_o (by first | assumption | exact Ne.symm (by assumption)) (zu_s _ _ _)))) | exact (zu_o (by first | assumption | exact Ne.symm (by assumption)) (zu_o (by first | assumption | exact Ne.symm (by assumption)) (zu_o (by first | assumption | exact Ne.symm (by assumption)) (by assumption)))) | exact (zu_o (by first | assumption | exact Ne.symm (by assumption)) (zu_o (by first | assumption | exact Ne.symm (by assumption)) (zu_o (by first | assumption | exact Ne.symm (by assumption)) (zu_o (by first | assumption | exact Ne.symm (by assumption)) (zu_s _ _ _))))) | exact (zu_o (by first | assumption | exact Ne.symm (by assumption)) (zu_o (by first | assumption | exact Ne.symm (by assumption)) (zu_o (by first | assumption | exact Ne.symm (by assumption)) (zu_o (by first | assumption | exact Ne.symm (by assumption)) (by assumption))))) | exact AL.at (by assumption) | exact EL.at (by assumption) | exact LL.at (by assumption)) (ci := 3) rfl rfl rfl rfl (by first | exact Nat.le_of_ble_eq_true rfl | simp [va_rf_c, Value.category]) (zhf (by omega) (by omega))) kx3 (fun r_163 μ_163 h_163 => ?_)
      obtain ⟨t1, t2, t3, t4, t5⟩ := h_163
      have hb5 := t4 _ _ hb3 (by simpa using hbg)
      have hk5 := hk3.tr t4
      have hpr3 := pNuS_1 (Y := Y) (lo := 1) (hi := 30) hL hbr2
      have hpe3 : pNuS L Y (p3, -1000001) 1 30 = ((pNuS L Y (p3, -1000001) 1 30).1, -1000001) := Prod.ext rfl t1
      rw [hpe3] at hm
      refine z_callq (z_runV hX (x_edAt (n := r_143) (d := r_163) _ _ hb5) (cwV 2 hX.ts (lw_V q645 q458 q459 q72 q460) rfl rfl rfl (by decide +kernel) (zroom (by first | decide | omega) (by decide))) dX3_edge_166 (by first | assumption | exact zu_s _ _ _ | exact zu_o (by assumption) (by assumption) | exact zu_o (by assumption) (zu_o (by assumption) (by assumption)) | exact (zu_o (by first | assumption | exact Ne.symm (by assumption)) (zu_s _ _ _)) | exact (zu_o (by first | assumption | exact Ne.symm (by assumption)) (by assumption)) | exact (zu_o (by first | assumption | exact Ne.symm (by assumption)) (zu_o (by first | assumption | exact Ne.symm (by assumption)) (zu_s _ _ _))) | exact (zu_o (by first | assumption | exact Ne.symm (by assumption)) (zu_o (by first | assumption | exact Ne.symm (by assumption)) (by assumption))) | exact (zu_o (by first | assumption | exact Ne.symm (by assumption)) (zu_o (by first | assumption | exact Ne.symm (by assumption)) (zu_o (by first | assumption | exact Ne.symm (by assumption)) (zu_s _ _ _)))) | exact (zu_o (by first | assumption | exact Ne.symm (by assumption)) (zu_o (by first | assumption | exact Ne.symm (by assumption)) (zu_o (by first | assumption | exact Ne.symm (by assumption)) (by assumption)))) | exact (zu_o (by first | assumption | exact Ne.symm (by assumption)) (zu_o (by first | assumption | exact Ne.symm (by assumption)) (zu_o (by first | assumption | exact Ne.symm (by assumption)) (zu_o (by first | assumption | exact Ne.symm (by assumption)) (zu_s _ _ _))))) | exact (zu_o (by first | assumption | exact Ne.symm (by assumption)) (zu_o (by first | assumption | exact Ne.symm (by assumption)) (zu_o (by first | assumption | exact Ne.symm (by assumption)) (zu_o (by first | assumption | exact Ne.symm (by assumption)) (by assumption))))) | exact AL.at (by assumption) | exact EL.at (by assumption) | exact LL.at (by assumption)) (ci := 2) rfl rfl rfl rfl (by first | exact Nat.le_of_ble_eq_true rfl | simp [va_rf_c, Value.category]) (zhf (by omega) (by omega))) (fun r_166 μ_166 h_166 => ?_)
      obtain ⟨b2, hb2n, rfl, rfl⟩ := h_166
      refine z_astore hX (lv' := [_, _, _, _, _, _, _, _]) (by first | rfl | exact va_rf_r _) (Nat.le_of_ble_eq_true rfl) (by first | exact zpre_0 | exact zpre_n rfl | exact zpre_1 rfl rfl | exact zpre_1 rfl (va_rf_c _)) rfl dX3_edge_169 ?_
      have kn := zKp.new hb2n (zed (zf (zf gd 5 r_143) 6 r_163))
      have hbn2 : μ b2 = none := by
        cases hxx : μ b2 with
        | none => rfl
        | some e =>
          by_cases hbg2 : b2 = g
          · rw [hbg2, t5] at hb2n; cases hb2n
          · have := hk5 _ _ hxx (by simpa using hbg2)
            rw [hb2n] at this; cases this
      subst hm
      exact J171 _ _ b2 _ _ _ hlt (hk5.tr (kn.x _)) (kn _ _ t5) (zu_s _ _ _) hbn2 hpr3 rfl (by
        obtain ⟨g0, g1, g2, g4, g3, g5, g6⟩ := hgd
        refine ⟨?_, ?_, ?_, ?_, ?_, ?_, ?_⟩
        · rw [zf_n (by decide), zf_n (by decide)]; exact g0
        · rw [zf_n (by decide), zf_n (by decide)]; exact g1
        · rw [zf_n (by decide), zf_n (by decide)]; exact g2
        · rw [zf_n (by decide), zf_n (by decide)]; exact g4
        · rw [zf_n (by decide), zf_n (by decide)]; exact g3
        · rw [zf_n (by decide), zf_s]; exact s2.symm
        · rw [zf_s]; exact t2.symm) (by omega) (by omega) _ _ _ _ _ _
  have J115 : ∀ (μ1 : zM) (pp : Int) (v0 v1 v2 v3 v4 : Int) (ce sl : Nat), rs.length < 16 → zKx [g] μ μ1 → μ1 g = some (zrd pp rl x) → (0 ≤ pp ∧ pp ≤ L) → rdG5 L Y v0 v1 v2 v3 v4 (pp, -1000001) = V → ce ≤ 11 → sl ≤ 65 → zW X (zR 8 24 160) E μ1 ce sl Q 115 [some (.ref g), some (.int (zI v0)), some (.int (zI v1)), some (.int (zI v2)), some (.int (zI v3)), none, none, none] [.int (zI v4)] := by
    intro μ1 pp v0 v1 v2 v3 v4 ce sl hlt hk hg hpp hm hce hsl
    refine z_istore hX (lv' := [_, _, _, _, _, _, _, _]) (Nat.le_of_ble_eq_true rfl) (by first | exact zpre_0 | exact zpre_n rfl | exact zpre_1 rfl rfl | exact zpre_1 rfl (va_rf_c _)) rfl dX3_edge_115 ?_
    refine z_new hX (C := RX2) (T := TX2) (N := 7) (ci := 2) rfl in_X2 tyX2 tyX2_ok q639 q326 q72 dX3_edge_117 (fs := [.int (zI 0), .int (zI 0), .int (zI 0), .int (zI 0), .int (zI 0), .int (zI 0), .int (zI 0)]) (by decide) (by omega) (by omega) (fun q_117 f_117 => ?_)
    have kn := zKp.new f_117 (zed (gEd v0 v1 v2 v4 v3))
    have hbn : μ q_117 = none := by
      cases hxx : μ q_117 with
      | none => rfl
      | some e =>
        by_cases hbg2 : q_117 = g
        · rw [hbg2, hg] at f_117; cases f_117
        · have := hk _ _ hxx (by simpa using hbg2)
          rw [f_117] at this; cases this
    have hzz : (zu μ1 q_117 (zob 2 [.int (zI 0), .int (zI 0), .int (zI 0), .int (zI 0), .int (zI 0), .int (zI 0), .int (zI 0)])) q_117 = some (zed (fun _ => 0)) := zu_s _ _ _
    refine z_dup hX (by first | rfl | exact va_rf_c _) dX3_edge_120 ?_
    refine z_iload_n hX rfl dX3_edge_121 ?_
    refine z_iload_n hX rfl dX3_edge_122 ?_
    refine z_iload_n hX rfl dX3_edge_123 ?_
    refine z_iload hX rfl dX3_edge_124 ?_
    refine z_iload hX rfl dX3_edge_126 ?_
    refine z_callv (z_runI hX (x_edI5 (g := gEd v0 v1 v2 v4 v3) _ _ hzz rfl rfl) (cwI 5 hX.ts (lw_meth q329) rfl rfl rfl (hX.t q72) (hX.t q640) (hX.t q328) rfl (by decide +kernel) (zroom (by first | decide | omega) (by decide))) dX3_edge_128 rfl rfl rfl (by first | exact Nat.le_of_ble_eq_true rfl | simp [va_rf_c, Value.category]) (zhf (by omega) (by omega))) (fun μ_128 h_128 => ?_)
    obtain rfl := h_128; rw [zu_zu]
    refine z_astore hX (lv' := [_, _, _, _, _, _, _, _]) (by first | rfl | exact va_rf_r _) (Nat.le_of_ble_eq_true rfl) (by first | exact zpre_0 | exact zpre_n rfl | exact zpre_1 rfl rfl | exact zpre_1 rfl (va_rf_c _)) rfl dX3_edge_131 ?_
    exact J133 _ pp q_117 _ v0 v1 v2 v3 v4 _ _ hlt (hk.tr (kn.x _)) (kn _ _ hg) (zu_s _ _ _) hbn hpp hm ⟨rfl, rfl, rfl, rfl, rfl, rfl, rfl⟩ (by omega) (by omega) _ _ _ _ _ _
  have J77 : ∀ (μ1 : zM) (pp : Int) (v0 v1 v2 v3 : Int) (ce sl : Nat), rs.length < 16 → zKx [g] μ μ1 → μ1 g = some (zrd pp rl x) → (0 ≤ pp ∧ pp ≤ L) → rdG4 L Y v0 v1 v2 v3 (pp, -1000001) = V → ce ≤ 9 → sl ≤ 51 → zW X (zR 8 24 160) E μ1 ce sl Q 77 [some (.ref g), some (.int (zI v0)), some (.int (zI v1)), some (.int (zI v2)), none, none, none, none] [.int (zI v3)] := by
    intro μ1 pp v0 v1 v2 v3 ce sl hlt hk hg hpp hm hce hsl
    have hR := hRD μ1 pp hk hg
    unfold rdG4 at hm
    have dg : ∀ (μ2 : zM) (p2 : Int) (ce2 sl2 pc : Nat), zKx [g] μ μ2 → (0 ≤ p2 ∧ p2 ≤ L) → (∀ q', V.2 = eT5 L Y q' → True) → (∀ q' : pSt, pOnS L Y (p2, -1000001) 48 57 = q' → V.2 = eT5 L Y q') → ce2 ≤ 24 → sl2 ≤ 160 → ∀ (q : Nat) (μ' : zM) (lv : List (Option Value)), (∃ w, (0 ≤ w ∧ w ≤ L) ∧ ((¬ (48 + 0 ≤ cAt L Y p2 ∧ cAt L Y p2 ≤ 57) ∧ w = p2) ∨ ((48 + 0 ≤ cAt L Y p2 ∧ cAt L Y p2 ≤ 57) ∧ (48 ≤ cAt L Y (p2 + 1) ∧ cAt L Y (p2 + 1) ≤ 57) ∧ w = p2 + 1)) ∧ μ' q = some (zTF w) ∧ zKx [g] μ2 μ') → zyW X (zR 8 24 160) E μ' ce2 sl2 Q pc lv q := by
      intro μ2 p2 ce2 sl2 pc hk2 hp2 _ hv hc2 hs2 q μ' lv hx
      obtain ⟨w, w1, w2, w3, w4⟩ := hx
      refine KX q μ' w _ _ _ _ hlt w1 ?_ w3 (hk2.tr w4) hc2 hs2
      rcases w2 with ⟨hn, rfl⟩ | ⟨hy, hd, rfl⟩
      · rw [hv _ (on_f (fun z => hn (by omega)))]
        exact eT5_f (by dsimp only; omega)
      · rw [hv _ (on_t (by omega)).2, blk_d hd]
        exact eT5_d hd
    refine z_istore hX (lv' := [_, _, _, _, _, _, _, _]) (Nat.le_of_ble_eq_true rfl) (by first | exact zpre_0 | exact zpre_n rfl | exact zpre_1 rfl rfl | exact zpre_1 rfl (va_rf_c _)) rfl dX3_edge_77 ?_
    refine z_aload_n hX rfl (by first | rfl | exact va_rf_r _) dX3_edge_79 ?_
    refine z_bipush hX (by decide) dX3_edge_80 ?_
    refine z_callb (z_runV hX (x_takes (c := 115) _ _ hR hpp (by omega)) (cwV 1 hX.ts (lw_V q619 q621 qs14 q80 q622) rfl rfl rfl (by decide +kernel) (zroom (by first | decide | omega) (by decide))) dX3_edge_82 (by first | assumption | exact zu_s _ _ _ | exact zu_o (by assumption) (by assumption) | exact zu_o (by assumption) (zu_o (by assumption) (by assumption)) | exact (zu_o (by first | assumption | exact Ne.symm (by assumption)) (zu_s _ _ _)) | exact (zu_o (by first | assumption | exact Ne.symm (by assumption)) (by assumption)) | exact (zu_o (by first | assumption | exact Ne.symm (by assumption)) (zu_o (by first | assumption | exact Ne.symm (by assumption)) (zu_s _ _ _))) | exact (zu_o (by first | assumption | exact Ne.symm (by assumption)) (zu_o (by first | assumption | exact Ne.symm (by assumption)) (by assumption))) | exact (zu_o (by first | assumption | exact Ne.symm (by assumption)) (zu_o (by first | assumption | exact Ne.symm (by assumption)) (zu_o (by first | assumption | exact Ne.symm (by assumption)) (zu_s _ _ _)))) | exact (zu_o (by first | assumption | exact Ne.symm (by assumption)) (zu_o (by first | assumption | exact Ne.symm (by assumption)) (zu_o (by first | assumption | exact Ne.symm (by assumption)) (by assumption)))) | exact (zu_o (by first | assumption | exact Ne.symm (by assumption)) (zu_o (by first | assumption | exact Ne.symm (by assumption)) (zu_o (by first | assumption | exact Ne.symm (by assumption)) (zu_o (by first | assumption | exact Ne.symm (by assumption)) (zu_s _ _ _))))) | exact (zu_o (by first | assumption | exact Ne.symm (by assumption)) (zu_o (by first | assumption | exact Ne.symm (by assumption)) (zu_o (by first | assumption | exact Ne.symm (by assumption)) (zu_o (by first | assumption | exact Ne.symm (by assumption)) (by assumption))))) | exact AL.at (by assumption) | exact EL.at (by assumption) | exact LL.at (by assumption)) (ci := 3) rfl rfl rfl rfl (by first | exact Nat.le_of_ble_eq_true rfl | simp [va_rf_c, Value.category]) (zhf (by omega) (by omega))) (fun r_82 μ_82 h_82 => ?_)
    obtain ⟨hr, rfl⟩ := h_82
    refine z_if_eq_b hX dX3_edge_85 (tgt := 114) rfl (fun h_85 => ?_) (fun h_85 => ?_)
    · have hne : cAt L Y pp ≠ 115 := of_decide_eq_false (hr.trans h_85)
      rw [if_neg hne]
      have he : eSl L Y (pp, -1000001) = (0, (pp, -1000001)) := by
        unfold eSl
        rw [(tk_f hne).1, if_neg (by decide), (tk_f hne).2]
      rw [he] at hm
      rw [show zu μ1 g (zrd pp rl x) = μ1 from zu_id hg]
      refine z_iconst hX dX3_edge_114 ?_
      exact J115 μ1 pp v0 v1 v2 v3 0 _ _ hlt hk hg hpp hm (by omega) (by omega)
    · have heq : cAt L Y pp = 115 := of_decide_eq_true (hr.trans h_85)
      rw [if_pos heq]
      have hlp := cAt_lt (L := L) (X := Y) (p := pp) (by omega)
      have hbr := blk_rr (Y := Y) hL.1 (p := pp + 1) (by omega) (by omega)
      have he : eSl L Y (pp, -1000001) = eSg L Y (blk L Y (pp + 1), -1000001) := by
        unfold eSl
        rw [(tk_t heq).1, if_pos rfl, (tk_t heq).2]
      rw [he] at hm
      generalize blk L Y (pp + 1) = p1 at *
      have hk1 : zKx [g] μ (zu μ1 g (zrd p1 rl x)) := hk.put (by simp) _
      have hg1 := zu_s μ1 g (zrd p1 rl x)
      generalize zu μ1 g (zrd p1 rl x) = μ2 at *
      have hR1 := hRD μ2 p1 hk1 hg1
      refine z_aload_n hX rfl (by first | rfl | exact va_rf_r _) dX3_edge_88 ?_
      refine z_bipush hX (by decide) dX3_edge_89 ?_
      refine z_callb (z_runV hX (x_takes (c := 45) _ _ hR1 hbr (by omega)) (cwV 1 hX.ts (lw_V q619 q621 qs14 q80 q622) rfl rfl rfl (by decide +kernel) (zroom (by first | decide | omega) (by decide))) dX3_edge_91 (by first | assumption | exact zu_s _ _ _ | exact zu_o (by assumption) (by assumption) | exact zu_o (by assumption) (zu_o (by assumption) (by assumption)) | exact (zu_o (by first | assumption | exact Ne.symm (by assumption)) (zu_s _ _ _)) | exact (zu_o (by first | assumption | exact Ne.symm (by assumption)) (by assumption)) | exact (zu_o (by first | assumption | exact Ne.symm (by assumption)) (zu_o (by first | assumption | exact Ne.symm (by assumption)) (zu_s _ _ _))) | exact (zu_o (by first | assumption | exact Ne.symm (by assumption)) (zu_o (by first | assumption | exact Ne.symm (by assumption)) (by assumption))) | exact (zu_o (by first | assumption | exact Ne.symm (by assumption)) (zu_o (by first | assumption | exact Ne.symm (by assumption)) (zu_o (by first | assumption | exact Ne.symm (by assumption)) (zu_s _ _ _)))) | exact (zu_o (by first | assumption | exact Ne.symm (by assumption)) (zu_o (by first | assumption | exact Ne.symm (by assumption)) (zu_o (by first | assumption | exact Ne.symm (by assumption)) (by assumption)))) | exact (zu_o (by first | assumption | exact Ne.symm (by assumption)) (zu_o (by first | assumption | exact Ne.symm (by assumption)) (zu_o (by first | assumption | exact Ne.symm (by assumption)) (zu_o (by first | assumption | exact Ne.symm (by assumption)) (zu_s _ _ _))))) | exact (zu_o (by first | assumption | exact Ne.symm (by assumption)) (zu_o (by first | assumption | exact Ne.symm (by assumption)) (zu_o (by first | assumption | exact Ne.symm (by assumption)) (zu_o (by first | assumption | exact Ne.symm (by assumption)) (by assumption))))) | exact AL.at (by assumption) | exact EL.at (by assumption) | exact LL.at (by assumption)) (ci := 3) rfl rfl rfl rfl (by first | exact Nat.le_of_ble_eq_true rfl | simp [va_rf_c, Value.category]) (zhf (by omega) (by omega))) (fun r_91 μ_91 h_91 => ?_)
      obtain ⟨hr2, rfl⟩ := h_91
      refine z_if_eq_b hX dX3_edge_94 (tgt := 106) rfl (fun h_94 => ?_) (fun h_94 => ?_)
      · have hne : cAt L Y p1 ≠ 45 := of_decide_eq_false (hr2.trans h_94)
        rw [if_neg hne]
        have he2 : eSg L Y (p1, -1000001) = (pOn L Y (p1, -1000001) 48 57 - 48, pOnS L Y (p1, -1000001) 48 57) := by
          unfold eSg
          rw [(tk_f hne).1, if_neg (by decide), (tk_f hne).2]
        rw [he2] at hm
        rw [show zu μ2 g (zrd p1 rl x) = μ2 from zu_id hg1]
        have hv : ∀ q' : pSt, pOnS L Y (p1, -1000001) 48 57 = q' → V.2 = eT5 L Y q' := fun q' hq' => by rw [← hm, ← hq']; rfl
        refine z_aload_n hX rfl (by first | rfl | exact va_rf_r _) dX3_edge_106 ?_
        refine z_iconst hX dX3_edge_107 ?_
        refine zy_ci (zy_rV hX (x_digit (lo := 0) _ _ hR1 hbr (by omega)) (cwV 1 hX.ts (lw_V q634 q636 qs17 q80 q637) rfl rfl rfl (by decide +kernel) (zroom (by first | decide | omega) (by decide))) dX3_edge_108 (by first | assumption | exact zu_s _ _ _ | exact zu_o (by assumption) (by assumption) | exact zu_o (by assumption) (zu_o (by assumption) (by assumption)) | exact (zu_o (by first | assumption | exact Ne.symm (by assumption)) (zu_s _ _ _)) | exact (zu_o (by first | assumption | exact Ne.symm (by assumption)) (by assumption)) | exact (zu_o (by first | assumption | exact Ne.symm (by assumption)) (zu_o (by first | assumption | exact Ne.symm (by assumption)) (zu_s _ _ _))) | exact (zu_o (by first | assumption | exact Ne.symm (by assumption)) (zu_o (by first | assumption | exact Ne.symm (by assumption)) (by assumption))) | exact (zu_o (by first | assumption | exact Ne.symm (by assumption)) (zu_o (by first | assumption | exact Ne.symm (by assumption)) (zu_o (by first | assumption | exact Ne.symm (by assumption)) (zu_s _ _ _)))) | exact (zu_o (by first | assumption | exact Ne.symm (by assumption)) (zu_o (by first | assumption | exact Ne.symm (by assumption)) (zu_o (by first | assumption | exact Ne.symm (by assumption)) (by assumption)))) | exact (zu_o (by first | assumption | exact Ne.symm (by assumption)) (zu_o (by first | assumption | exact Ne.symm (by assumption)) (zu_o (by first | assumption | exact Ne.symm (by assumption)) (zu_o (by first | assumption | exact Ne.symm (by assumption)) (zu_s _ _ _))))) | exact (zu_o (by first | assumption | exact Ne.symm (by assumption)) (zu_o (by first | assumption | exact Ne.symm (by assumption)) (zu_o (by first | assumption | exact Ne.symm (by assumption)) (zu_o (by first | assumption | exact Ne.symm (by assumption)) (by assumption))))) | exact AL.at (by assumption) | exact EL.at (by assumption) | exact LL.at (by assumption)) (ci := 3) rfl rfl rfl rfl (by first | exact Nat.le_of_ble_eq_true rfl | simp [va_rf_c, Value.category]) (zhf (by omega) (by omega))) (fun q μ' hx => dg μ2 p1 _ _ 108 hk1 hbr (fun _ _ => trivial) hv (by omega) (by omega) q μ' _ hx) (fun r_108 μ_108 h_108 => ?_)
        obtain ⟨d1, d2, rfl, d4, d5⟩ := h_108
        refine z_goto hX (tgt := 115) dX3_edge_111 rfl ?_
        have ho := on_t (L := L) (Y := Y) (p := p1) (lo := 48) (hi := 57) (by omega)
        rw [ho.1, ho.2] at hm
        have hlp1 := cAt_lt (L := L) (X := Y) (p := p1) (by omega)
        exact J115 _ _ v0 v1 v2 v3 _ _ _ hlt (hk1.tr d4) d5 (blk_rr hL.1 (by omega) (by omega)) hm (by omega) (by omega)
      · have heq2 : cAt L Y p1 = 45 := of_decide_eq_true (hr2.trans h_94)
        rw [if_pos heq2]
        have hlp1 := cAt_lt (L := L) (X := Y) (p := p1) (by omega)
        have hbr2 := blk_rr (Y := Y) hL.1 (p := p1 + 1) (by omega) (by omega)
        have he2 : eSg L Y (p1, -1000001) = (- (pOn L Y (blk L Y (p1 + 1), -1000001) 48 57 - 48), pOnS L Y (blk L Y (p1 + 1), -1000001) 48 57) := by
          unfold eSg
          rw [(tk_t heq2).1, if_pos rfl, (tk_t heq2).2]
        rw [he2] at hm
        generalize blk L Y (p1 + 1) = p2 at *
        have hk2 : zKx [g] μ (zu μ2 g (zrd p2 rl x)) := hk1.put (by simp) _
        have hg2 := zu_s μ2 g (zrd p2 rl x)
        generalize zu μ2 g (zrd p2 rl x) = μ3 at *
        have hR2 := hRD μ3 p2 hk2 hg2
        have hv : ∀ q' : pSt, pOnS L Y (p2, -1000001) 48 57 = q' → V.2 = eT5 L Y q' := fun q' hq' => by rw [← hm, ← hq']; rfl
        refine z_aload_n hX rfl (by first | rfl | exact va_rf_r _) dX3_edge_97 ?_
        refine z_iconst hX dX3_edge_98 ?_
        refine zy_ci (zy_rV hX (x_digit (lo := 0) _ _ hR2 hbr2 (by omega)) (cwV 1 hX.ts (lw_V q634 q636 qs17 q80 q637) rfl rfl rfl (by decide +kernel) (zroom (by first | decide | omega) (by decide))) dX3_edge_99 (by first | assumption | exact zu_s _ _ _ | exact zu_o (by assumption) (by assumption) | exact zu_o (by assumption) (zu_o (by assumption) (by assumption)) | exact (zu_o (by first | assumption | exact Ne.symm (by assumption)) (zu_s _ _ _)) | exact (zu_o (by first | assumption | exact Ne.symm (by assumption)) (by assumption)) | exact (zu_o (by first | assumption | exact Ne.symm (by assumption)) (zu_o (by first | assumption | exact Ne.symm (by assumption)) (zu_s _ _ _))) | exact (zu_o (by first | assumption | exact Ne.symm (by assumption)) (zu_o (by first | assumption | exact Ne.symm (by assumption)) (by assumption))) | exact (zu_o (by first | assumption | exact Ne.symm (by assumption)) (zu_o (by first | assumption | exact Ne.symm (by assumption)) (zu_o (by first | assumption | exact Ne.symm (by assumption)) (zu_s _ _ _)))) | exact (zu_o (by first | assumption | exact Ne.symm (by assumption)) (zu_o (by first | assumption | exact Ne.symm (by assumption)) (zu_o (by first | assumption | exact Ne.symm (by assumption)) (by assumption)))) | exact (zu_o (by first | assumption | exact Ne.symm (by assumption)) (zu_o (by first | assumption | exact Ne.symm (by assumption)) (zu_o (by first | assumption | exact Ne.symm (by assumption)) (zu_o (by first | assumption | exact Ne.symm (by assumption)) (zu_s _ _ _))))) | exact (zu_o (by first | assumption | exact Ne.symm (by assumption)) (zu_o (by first | assumption | exact Ne.symm (by assumption)) (zu_o (by first | assumption | exact Ne.symm (by assumption)) (zu_o (by first | assumption | exact Ne.symm (by assumption)) (by assumption))))) | exact AL.at (by assumption) | exact EL.at (by assumption) | exact LL.at (by assumption)) (ci := 3) rfl rfl rfl rfl (by first | exact Nat.le_of_ble_eq_true rfl | simp [va_rf_c, Value.category]) (zhf (by omega) (by omega))) (fun q μ' hx => dg μ3 p2 _ _ 99 hk2 hbr2 (fun _ _ => trivial) hv (by omega) (by omega) q μ' _ hx) (fun r_99 μ_99 h_99 => ?_)
        obtain ⟨d1, d2, rfl, d4, d5⟩ := h_99
        refine z_ineg hX dX3_edge_102 ?_
        refine z_goto hX (tgt := 115) dX3_edge_103 rfl ?_
        have ho := on_t (L := L) (Y := Y) (p := p2) (lo := 48) (hi := 57) (by omega)
        rw [ho.1, ho.2] at hm
        have hlp2 := cAt_lt (L := L) (X := Y) (p := p2) (by omega)
        exact J115 _ _ v0 v1 v2 v3 _ _ _ hlt (hk2.tr d4) d5 (blk_rr hL.1 (by omega) (by omega)) hm (by omega) (by omega)
  have J58 : ∀ (μ1 : zM) (pp : Int) (v0 v1 v2 : Int) (ce sl : Nat), rs.length < 16 → zKx [g] μ μ1 → μ1 g = some (zrd pp rl x) → (0 ≤ pp ∧ pp ≤ L) → rdG3 L Y v0 v1 v2 (pp, -1000001) = V → ce ≤ 7 → sl ≤ 37 → zW X (zR 8 24 160) E μ1 ce sl Q 58 [some (.ref g), some (.int (zI v0)), some (.int (zI v1)), none, none, none, none, none] [.int (zI v2)] := by
    intro μ1 pp v0 v1 v2 ce sl hlt hk hg hpp hm hce hsl
    have hR := hRD μ1 pp hk hg
    unfold rdG3 at hm
    refine z_istore_n hX (lv' := [_, _, _, _, _, _, _, _]) (Nat.le_of_ble_eq_true rfl) (by first | exact zpre_0 | exact zpre_n rfl | exact zpre_1 rfl rfl | exact zpre_1 rfl (va_rf_c _)) rfl dX3_edge_58 ?_
    refine z_aload_n hX rfl (by first | rfl | exact va_rf_r _) dX3_edge_59 ?_
    refine z_bipush hX (by decide) dX3_edge_60 ?_
    refine z_callb (z_runV hX (x_takes (c := 116) _ _ hR hpp (by omega)) (cwV 1 hX.ts (lw_V q619 q621 qs14 q80 q622) rfl rfl rfl (by decide +kernel) (zroom (by first | decide | omega) (by decide))) dX3_edge_62 (by first | assumption | exact zu_s _ _ _ | exact zu_o (by assumption) (by assumption) | exact zu_o (by assumption) (zu_o (by assumption) (by assumption)) | exact (zu_o (by first | assumption | exact Ne.symm (by assumption)) (zu_s _ _ _)) | exact (zu_o (by first | assumption | exact Ne.symm (by assumption)) (by assumption)) | exact (zu_o (by first | assumption | exact Ne.symm (by assumption)) (zu_o (by first | assumption | exact Ne.symm (by assumption)) (zu_s _ _ _))) | exact (zu_o (by first | assumption | exact Ne.symm (by assumption)) (zu_o (by first | assumption | exact Ne.symm (by assumption)) (by assumption))) | exact (zu_o (by first | assumption | exact Ne.symm (by assumption)) (zu_o (by first | assumption | exact Ne.symm (by assumption)) (zu_o (by first | assumption | exact Ne.symm (by assumption)) (zu_s _ _ _)))) | exact (zu_o (by first | assumption | exact Ne.symm (by assumption)) (zu_o (by first | assumption | exact Ne.symm (by assumption)) (zu_o (by first | assumption | exact Ne.symm (by assumption)) (by assumption)))) | exact (zu_o (by first | assumption | exact Ne.symm (by assumption)) (zu_o (by first | assumption | exact Ne.symm (by assumption)) (zu_o (by first | assumption | exact Ne.symm (by assumption)) (zu_o (by first | assumption | exact Ne.symm (by assumption)) (zu_s _ _ _))))) | exact (zu_o (by first | assumption | exact Ne.symm (by assumption)) (zu_o (by first | assumption | exact Ne.symm (by assumption)) (zu_o (by first | assumption | exact Ne.symm (by assumption)) (zu_o (by first | assumption | exact Ne.symm (by assumption)) (by assumption))))) | exact AL.at (by assumption) | exact EL.at (by assumption) | exact LL.at (by assumption)) (ci := 3) rfl rfl rfl rfl (by first | exact Nat.le_of_ble_eq_true rfl | simp [va_rf_c, Value.category]) (zhf (by omega) (by omega))) (fun r_62 μ_62 h_62 => ?_)
    obtain ⟨hr, rfl⟩ := h_62
    refine z_if_eq_b hX dX3_edge_65 (tgt := 76) rfl (fun h_65 => ?_) (fun h_65 => ?_)
    · have hne : cAt L Y pp ≠ 116 := of_decide_eq_false (hr.trans h_65)
      rw [if_neg hne]
      have he : eTm L Y (pp, -1000001) = (1, (pp, -1000001)) := by
        unfold eTm
        rw [(tk_f hne).1, if_neg (by decide), (tk_f hne).2]
      rw [he] at hm
      rw [show zu μ1 g (zrd pp rl x) = μ1 from zu_id hg]
      refine z_iconst hX dX3_edge_76 ?_
      exact J77 μ1 pp v0 v1 v2 1 _ _ hlt hk hg hpp hm (by omega) (by omega)
    · have heq : cAt L Y pp = 116 := of_decide_eq_true (hr.trans h_65)
      rw [if_pos heq]
      have hlp := cAt_lt (L := L) (X := Y) (p := pp) (by omega)
      have hbr := blk_rr (Y := Y) hL.1 (p := pp + 1) (by omega) (by omega)
      have he : eTm L Y (pp, -1000001) = (pOn L Y (blk L Y (pp + 1), -1000001) 49 57 - 48, pOnS L Y (blk L Y (pp + 1), -1000001) 49 57) := by
        unfold eTm
        rw [(tk_t heq).1, if_pos rfl, (tk_t heq).2]
      rw [he] at hm
      generalize blk L Y (pp + 1) = p1 at *
      have hk1 : zKx [g] μ (zu μ1 g (zrd p1 rl x)) := hk.put (by simp) _
      have hg1 := zu_s μ1 g (zrd p1 rl x)
      generalize zu μ1 g (zrd p1 rl x) = μ2 at *
      have hR1 := hRD μ2 p1 hk1 hg1
      have dg : ∀ (q : Nat) (μ' : zM), (∃ w, (0 ≤ w ∧ w ≤ L) ∧ ((¬ (48 + 1 ≤ cAt L Y p1 ∧ cAt L Y p1 ≤ 57) ∧ w = p1) ∨ ((48 + 1 ≤ cAt L Y p1 ∧ cAt L Y p1 ≤ 57) ∧ (48 ≤ cAt L Y (p1 + 1) ∧ cAt L Y (p1 + 1) ≤ 57) ∧ w = p1 + 1)) ∧ μ' q = some (zTF w) ∧ zKx [g] μ2 μ') → ∀ (ce2 sl2 pc : Nat) (lv : List (Option Value)), ce2 ≤ 24 → sl2 ≤ 160 → zyW X (zR 8 24 160) E μ' ce2 sl2 Q pc lv q := by
        intro q μ' hx ce2 sl2 pc lv hc2 hs2
        obtain ⟨w, w1, w2, w3, w4⟩ := hx
        refine KX q μ' w _ _ _ _ hlt w1 ?_ w3 (hk1.tr w4) hc2 hs2
        rw [← hm]
        show (eT4 L Y (pOnS L Y (p1, -1000001) 49 57)).2 = w
        rcases w2 with ⟨hn, hw2⟩ | ⟨hy, hd, hw2⟩
        · rw [on_f (fun z => hn (by omega)), hw2]
          exact eT4_f (by dsimp only; omega)
        · rw [(on_t (by omega)).2, blk_d hd, hw2]
          exact eT4_d hd
      refine z_aload_n hX rfl (by first | rfl | exact va_rf_r _) dX3_edge_68 ?_
      refine z_iconst hX dX3_edge_69 ?_
      refine zy_ci (zy_rV hX (x_digit (lo := 1) _ _ hR1 hbr (by omega)) (cwV 1 hX.ts (lw_V q634 q636 qs17 q80 q637) rfl rfl rfl (by decide +kernel) (zroom (by first | decide | omega) (by decide))) dX3_edge_70 (by first | assumption | exact zu_s _ _ _ | exact zu_o (by assumption) (by assumption) | exact zu_o (by assumption) (zu_o (by assumption) (by assumption)) | exact (zu_o (by first | assumption | exact Ne.symm (by assumption)) (zu_s _ _ _)) | exact (zu_o (by first | assumption | exact Ne.symm (by assumption)) (by assumption)) | exact (zu_o (by first | assumption | exact Ne.symm (by assumption)) (zu_o (by first | assumption | exact Ne.symm (by assumption)) (zu_s _ _ _))) | exact (zu_o (by first | assumption | exact Ne.symm (by assumption)) (zu_o (by first | assumption | exact Ne.symm (by assumption)) (by assumption))) | exact (zu_o (by first | assumption | exact Ne.symm (by assumption)) (zu_o (by first | assumption | exact Ne.symm (by assumption)) (zu_o (by first | assumption | exact Ne.symm (by assumption)) (zu_s _ _ _)))) | exact (zu_o (by first | assumption | exact Ne.symm (by assumption)) (zu_o (by first | assumption | exact Ne.symm (by assumption)) (zu_o (by first | assumption | exact Ne.symm (by assumption)) (by assumption)))) | exact (zu_o (by first | assumption | exact Ne.symm (by assumption)) (zu_o (by first | assumption | exact Ne.symm (by assumption)) (zu_o (by first | assumption | exact Ne.symm (by assumption)) (zu_o (by first | assumption | exact Ne.symm (by assumption)) (zu_s _ _ _))))) | exact (zu_o (by first | assumption | exact Ne.symm (by assumption)) (zu_o (by first | assumption | exact Ne.symm (by assumption)) (zu_o (by first | assumption | exact Ne.symm (by assumption)) (zu_o (by first | assumption | exact Ne.symm (by assumption)) (by assumption))))) | exact AL.at (by assumption) | exact EL.at (by assumption) | exact LL.at (by assumption)) (ci := 3) rfl rfl rfl rfl (by first | exact Nat.le_of_ble_eq_true rfl | simp [va_rf_c, Value.category]) (zhf (by omega) (by omega))) (fun q μ' hx => dg q μ' hx _ _ _ _ (by omega) (by omega)) (fun r_70 μ_70 h_70 => ?_)
      obtain ⟨d1, d2, rfl, d4, d5⟩ := h_70
      refine z_goto hX (tgt := 77) dX3_edge_73 rfl ?_
      have ho := on_t (L := L) (Y := Y) (p := p1) (lo := 49) (hi := 57) (by omega)
      rw [ho.1, ho.2] at hm
      have hlp1 := cAt_lt (L := L) (X := Y) (p := p1) (by omega)
      exact J77 _ _ v0 v1 v2 _ _ _ hlt (hk1.tr d4) d5 (blk_rr hL.1 (by omega) (by omega)) hm (by omega) (by omega)
  have J31 : ∀ (μ1 : zM) (pp : Int) (v0 v1 : Int) (ce sl : Nat), rs.length < 16 → zKx [g] μ μ1 → μ1 g = some (zrd pp rl x) → (0 ≤ pp ∧ pp ≤ L) → rdG2 L Y v0 v1 (pp, -1000001) = V → ce ≤ 5 → sl ≤ 23 → zW X (zR 8 24 160) E (μ1) ce sl Q 31 [some (.ref g), some (.int (zI v0)), some (.int (zI v1)), none, none, none, none, none] [] := by
    intro μ1 pp v0 v1 ce sl hlt hk hg hpp hm hce hsl
    have hR := hRD μ1 pp hk hg
    unfold rdG2 at hm
    have nu : ∀ (μ2 : zM) (p1 : Int), zKx [g] μ μ2 → (eWt L Y (pp, -1000001)).2 = pNuS L Y (p1, -1000001) 0 99 → ∀ (q : Nat) (μ' : zM), (∃ w, (0 ≤ w ∧ w ≤ L) ∧ (pNuS L Y (p1, -1000001) 0 99).2 = w ∧ μ' q = some (zTF w) ∧ zKx [g] μ2 μ') → ∀ (ce2 sl2 pc : Nat) (lv : List (Option Value)), ce2 ≤ 24 → sl2 ≤ 160 → zyW X (zR 8 24 160) E μ' ce2 sl2 Q pc lv q := by
      intro μ2 p1 hk2 he q μ' hx ce2 sl2 pc lv hc2 hs2
      obtain ⟨w, w1, w2, w3, w4⟩ := hx
      refine KX q μ' w _ _ _ _ hlt w1 ?_ w3 (hk2.tr w4) hc2 hs2
      rw [← hm]
      show (eT3 L Y (eWt L Y (pp, -1000001)).2).2 = w
      rw [he, eT3_f (by rw [w2]; omega), w2]
    refine z_aload_n hX rfl (by first | rfl | exact va_rf_r _) dX3_edge_31 ?_
    refine z_bipush hX (by decide) dX3_edge_32 ?_
    refine z_callb (z_runV hX (x_takes (c := 45) _ _ hR hpp (by omega)) (cwV 1 hX.ts (lw_V q619 q621 qs14 q80 q622) rfl rfl rfl (by decide +kernel) (zroom (by first | decide | omega) (by decide))) dX3_edge_34 (by first | assumption | exact zu_s _ _ _ | exact zu_o (by assumption) (by assumption) | exact zu_o (by assumption) (zu_o (by assumption) (by assumption)) | exact (zu_o (by first | assumption | exact Ne.symm (by assumption)) (zu_s _ _ _)) | exact (zu_o (by first | assumption | exact Ne.symm (by assumption)) (by assumption)) | exact (zu_o (by first | assumption | exact Ne.symm (by assumption)) (zu_o (by first | assumption | exact Ne.symm (by assumption)) (zu_s _ _ _))) | exact (zu_o (by first | assumption | exact Ne.symm (by assumption)) (zu_o (by first | assumption | exact Ne.symm (by assumption)) (by assumption))) | exact (zu_o (by first | assumption | exact Ne.symm (by assumption)) (zu_o (by first | assumption | exact Ne.symm (by assumption)) (zu_o (by first | assumption | exact Ne.symm (by assumption)) (zu_s _ _ _)))) | exact (zu_o (by first | assumption | exact Ne.symm (by assumption)) (zu_o (by first | assumption | exact Ne.symm (by assumption)) (zu_o (by first | assumption | exact Ne.symm (by assumption)) (by assumption)))) | exact (zu_o (by first | assumption | exact Ne.symm (by assumption)) (zu_o (by first | assumption | exact Ne.symm (by assumption)) (zu_o (by first | assumption | exact Ne.symm (by assumption)) (zu_o (by first | assumption | exact Ne.symm (by assumption)) (zu_s _ _ _))))) | exact (zu_o (by first | assumption | exact Ne.symm (by assumption)) (zu_o (by first | assumption | exact Ne.symm (by assumption)) (zu_o (by first | assumption | exact Ne.symm (by assumption)) (zu_o (by first | assumption | exact Ne.symm (by assumption)) (by assumption))))) | exact AL.at (by assumption) | exact EL.at (by assumption) | exact LL.at (by assumption)) (ci := 3) rfl rfl rfl rfl (by first | exact Nat.le_of_ble_eq_true rfl | simp [va_rf_c, Value.category]) (zhf (by omega) (by omega))) (fun r_34 μ_34 h_34 => ?_)
    obtain ⟨hr, rfl⟩ := h_34
    refine z_if_eq_b hX dX3_edge_37 (tgt := 51) rfl (fun h_37 => ?_) (fun h_37 => ?_)
    · have hne : cAt L Y pp ≠ 45 := of_decide_eq_false (hr.trans h_37)
      rw [if_neg hne]
      have he : eWt L Y (pp, -1000001) = (pNu L Y (pp, -1000001), pNuS L Y (pp, -1000001) 0 99) := by
        unfold eWt
        rw [(tk_f hne).1, if_neg (by decide), (tk_f hne).2]
      rw [show zu μ1 g (zrd pp rl x) = μ1 from zu_id hg]
      have nu2 := nu μ1 pp hk (congrArg Prod.snd he)
      refine z_aload_n hX rfl (by first | rfl | exact va_rf_r _) dX3_edge_51 ?_
      refine z_iconst hX dX3_edge_52 ?_
      refine z_bipush hX (by decide) dX3_edge_53 ?_
      refine zy_ci (zy_rV hX (x_number (lo := 0) (hi := 99) _ _ hR hpp (by omega) (by omega)) (cwV 2 hX.ts (lw_V q623 q625 qs15 q80 q626) rfl rfl rfl (by decide +kernel) (zroom (by first | decide | omega) (by decide))) dX3_edge_55 (by first | assumption | exact zu_s _ _ _ | exact zu_o (by assumption) (by assumption) | exact zu_o (by assumption) (zu_o (by assumption) (by assumption)) | exact (zu_o (by first | assumption | exact Ne.symm (by assumption)) (zu_s _ _ _)) | exact (zu_o (by first | assumption | exact Ne.symm (by assumption)) (by assumption)) | exact (zu_o (by first | assumption | exact Ne.symm (by assumption)) (zu_o (by first | assumption | exact Ne.symm (by assumption)) (zu_s _ _ _))) | exact (zu_o (by first | assumption | exact Ne.symm (by assumption)) (zu_o (by first | assumption | exact Ne.symm (by assumption)) (by assumption))) | exact (zu_o (by first | assumption | exact Ne.symm (by assumption)) (zu_o (by first | assumption | exact Ne.symm (by assumption)) (zu_o (by first | assumption | exact Ne.symm (by assumption)) (zu_s _ _ _)))) | exact (zu_o (by first | assumption | exact Ne.symm (by assumption)) (zu_o (by first | assumption | exact Ne.symm (by assumption)) (zu_o (by first | assumption | exact Ne.symm (by assumption)) (by assumption)))) | exact (zu_o (by first | assumption | exact Ne.symm (by assumption)) (zu_o (by first | assumption | exact Ne.symm (by assumption)) (zu_o (by first | assumption | exact Ne.symm (by assumption)) (zu_o (by first | assumption | exact Ne.symm (by assumption)) (zu_s _ _ _))))) | exact (zu_o (by first | assumption | exact Ne.symm (by assumption)) (zu_o (by first | assumption | exact Ne.symm (by assumption)) (zu_o (by first | assumption | exact Ne.symm (by assumption)) (zu_o (by first | assumption | exact Ne.symm (by assumption)) (by assumption))))) | exact AL.at (by assumption) | exact EL.at (by assumption) | exact LL.at (by assumption)) (ci := 3) rfl rfl rfl rfl (by first | exact Nat.le_of_ble_eq_true rfl | simp [va_rf_c, Value.category]) (zhf (by omega) (by omega))) (fun q μ' hx => nu2 q μ' hx _ _ _ _ (by omega) (by omega)) (fun r_55 μ_55 h_55 => ?_)
      obtain ⟨s1, rfl, s3, s4, s5⟩ := h_55
      have hpe : pNuS L Y (pp, -1000001) 0 99 = ((pNuS L Y (pp, -1000001) 0 99).1, -1000001) := Prod.ext rfl s1
      rw [he, hpe] at hm
      exact J58 _ _ v0 v1 _ _ _ hlt (hk.tr s4) s5 (pNuS_1 hL hpp) hm (by omega) (by omega)
    · have heq : cAt L Y pp = 45 := of_decide_eq_true (hr.trans h_37)
      rw [if_pos heq]
      have hlp := cAt_lt (L := L) (X := Y) (p := pp) (by omega)
      have hbr := blk_rr (Y := Y) hL.1 (p := pp + 1) (by omega) (by omega)
      have he : eWt L Y (pp, -1000001) = (- pNu L Y (blk L Y (pp + 1), -1000001), pNuS L Y (blk L Y (pp + 1), -1000001) 0 99) := by
        unfold eWt
        rw [(tk_t heq).1, if_pos rfl, (tk_t heq).2]
      generalize blk L Y (pp + 1) = p1 at *
      have hk1 : zKx [g] μ (zu μ1 g (zrd p1 rl x)) := hk.put (by simp) _
      have hg1 := zu_s μ1 g (zrd p1 rl x)
      generalize zu μ1 g (zrd p1 rl x) = μ2 at *
      have hR1 := hRD μ2 p1 hk1 hg1
      have nu2 := nu μ2 p1 hk1 (congrArg Prod.snd he)
      refine z_aload_n hX rfl (by first | rfl | exact va_rf_r _) dX3_edge_40 ?_
      refine z_iconst hX dX3_edge_41 ?_
      refine z_bipush hX (by decide) dX3_edge_42 ?_
      refine zy_ci (zy_rV hX (x_number (lo := 0) (hi := 99) _ _ hR1 hbr (by omega) (by omega)) (cwV 2 hX.ts (lw_V q623 q625 qs15 q80 q626) rfl rfl rfl (by decide +kernel) (zroom (by first | decide | omega) (by decide))) dX3_edge_44 (by first | assumption | exact zu_s _ _ _ | exact zu_o (by assumption) (by assumption) | exact zu_o (by assumption) (zu_o (by assumption) (by assumption)) | exact (zu_o (by first | assumption | exact Ne.symm (by assumption)) (zu_s _ _ _)) | exact (zu_o (by first | assumption | exact Ne.symm (by assumption)) (by assumption)) | exact (zu_o (by first | assumption | exact Ne.symm (by assumption)) (zu_o (by first | assumption | exact Ne.symm (by assumption)) (zu_s _ _ _))) | exact (zu_o (by first | assumption | exact Ne.symm (by assumption)) (zu_o (by first | assumption | exact Ne.symm (by assumption)) (by assumption))) | exact (zu_o (by first | assumption | exact Ne.symm (by assumption)) (zu_o (by first | assumption | exact Ne.symm (by assumption)) (zu_o (by first | assumption | exact Ne.symm (by assumption)) (zu_s _ _ _)))) | exact (zu_o (by first | assumption | exact Ne.symm (by assumption)) (zu_o (by first | assumption | exact Ne.symm (by assumption)) (zu_o (by first | assumption | exact Ne.symm (by assumption)) (by assumption)))) | exact (zu_o (by first | assumption | exact Ne.symm (by assumption)) (zu_o (by first | assumption | exact Ne.symm (by assumption)) (zu_o (by first | assumption | exact Ne.symm (by assumption)) (zu_o (by first | assumption | exact Ne.symm (by assumption)) (zu_s _ _ _))))) | exact (zu_o (by first | assumption | exact Ne.symm (by assumption)) (zu_o (by first | assumption | exact Ne.symm (by assumption)) (zu_o (by first | assumption | exact Ne.symm (by assumption)) (zu_o (by first | assumption | exact Ne.symm (by assumption)) (by assumption))))) | exact AL.at (by assumption) | exact EL.at (by assumption) | exact LL.at (by assumption)) (ci := 3) rfl rfl rfl rfl (by first | exact Nat.le_of_ble_eq_true rfl | simp [va_rf_c, Value.category]) (zhf (by omega) (by omega))) (fun q μ' hx => nu2 q μ' hx _ _ _ _ (by omega) (by omega)) (fun r_44 μ_44 h_44 => ?_)
      obtain ⟨s1, rfl, s3, s4, s5⟩ := h_44
      refine z_ineg hX dX3_edge_47 ?_
      refine z_goto hX (tgt := 58) dX3_edge_48 rfl ?_
      have hpe : pNuS L Y (p1, -1000001) 0 99 = ((pNuS L Y (p1, -1000001) 0 99).1, -1000001) := Prod.ext rfl s1
      rw [he, hpe] at hm
      exact J58 _ _ v0 v1 _ _ _ hlt (hk1.tr s4) s5 (pNuS_1 hL hbr) hm (by omega) (by omega)
  have J21 : rs.length < 16 → zW X (zR 8 24 160) E (μ) 1 7 Q 21 [some (.ref g), none, none, none, none, none, none, none] [] := by
    intro hlt
    have kx1 : ∀ (q : Nat) (μ' : zM), (∃ w, ¬ (97 ≤ cAt L Y p0 ∧ cAt L Y p0 ≤ 104) ∧ w = p0 ∧ μ' q = some (zTF w) ∧ zKx [g] μ μ') → zyW X (zR 8 24 160) E μ' 3 15 Q 22 [some (.ref g), none, none, none, none, none, none, none] q := fun q μ' hx => by
      obtain ⟨w, w1, w2, w3, w4⟩ := hx
      refine KX q μ' w _ _ _ _ hlt (by omega) ?_ w3 w4 (by omega) (by omega)
      rw [← hV]
      show (eT1 L Y (pOnS L Y (p0, -1000001) 97 104)).2 = w
      rw [on_f w1, w2]
      exact eT1_f (by dsimp only; omega)
    refine z_aload_n hX rfl (by first | rfl | exact va_rf_r _) dX3_edge_21 ?_
    refine zy_ci (zy_rV hX (x_node _ _ h hp0) (cwV 0 hX.ts (lw_V q614 q616 qs13 q80 q617) rfl rfl rfl (by decide +kernel) (zroom (by first | decide | omega) (by decide))) dX3_edge_22 (by first | assumption | exact zu_s _ _ _ | exact zu_o (by assumption) (by assumption) | exact zu_o (by assumption) (zu_o (by assumption) (by assumption)) | exact (zu_o (by first | assumption | exact Ne.symm (by assumption)) (zu_s _ _ _)) | exact (zu_o (by first | assumption | exact Ne.symm (by assumption)) (by assumption)) | exact (zu_o (by first | assumption | exact Ne.symm (by assumption)) (zu_o (by first | assumption | exact Ne.symm (by assumption)) (zu_s _ _ _))) | exact (zu_o (by first | assumption | exact Ne.symm (by assumption)) (zu_o (by first | assumption | exact Ne.symm (by assumption)) (by assumption))) | exact (zu_o (by first | assumption | exact Ne.symm (by assumption)) (zu_o (by first | assumption | exact Ne.symm (by assumption)) (zu_o (by first | assumption | exact Ne.symm (by assumption)) (zu_s _ _ _)))) | exact (zu_o (by first | assumption | exact Ne.symm (by assumption)) (zu_o (by first | assumption | exact Ne.symm (by assumption)) (zu_o (by first | assumption | exact Ne.symm (by assumption)) (by assumption)))) | exact (zu_o (by first | assumption | exact Ne.symm (by assumption)) (zu_o (by first | assumption | exact Ne.symm (by assumption)) (zu_o (by first | assumption | exact Ne.symm (by assumption)) (zu_o (by first | assumption | exact Ne.symm (by assumption)) (zu_s _ _ _))))) | exact (zu_o (by first | assumption | exact Ne.symm (by assumption)) (zu_o (by first | assumption | exact Ne.symm (by assumption)) (zu_o (by first | assumption | exact Ne.symm (by assumption)) (zu_o (by first | assumption | exact Ne.symm (by assumption)) (by assumption))))) | exact AL.at (by assumption) | exact EL.at (by assumption) | exact LL.at (by assumption)) (ci := 3) rfl rfl rfl rfl (by first | exact Nat.le_of_ble_eq_true rfl | simp [va_rf_c, Value.category]) (zhf (by omega) (by omega))) kx1 (fun r_22 μ_22 h_22 => ?_)
    obtain ⟨n1, rfl, n3, n4⟩ := h_22
    refine z_istore_n hX (lv' := [_, _, _, _, _, _, _, _]) (Nat.le_of_ble_eq_true rfl) (by first | exact zpre_0 | exact zpre_n rfl | exact zpre_1 rfl rfl | exact zpre_1 rfl (va_rf_c _)) rfl dX3_edge_25 ?_
    have he : eNd L Y (p0, -1000001) = (cAt L Y p0 - 97, (blk L Y (p0 + 1), -1000001)) := by
      have ho := on_t (L := L) (Y := Y) (p := p0) n1
      unfold eNd
      rw [ho.1, ho.2]
    rw [he] at hV
    unfold rdG1 at hV
    dsimp only at hV
    have hlp := cAt_lt (L := L) (X := Y) (p := p0) (by omega)
    have hbr := blk_rr (Y := Y) hL.1 (p := p0 + 1) (by omega) (by omega)
    generalize blk L Y (p0 + 1) = p1 at *
    have hR1 := hRD _ p1 n3 n4
    have kx2 : ∀ (q : Nat) (μ' : zM), (∃ w, ¬ (97 ≤ cAt L Y p1 ∧ cAt L Y p1 ≤ 104) ∧ w = p1 ∧ μ' q = some (zTF w) ∧ zKx [g] μ_22 μ') → zyW X (zR 8 24 160) E μ' 5 23 Q 27 [some (.ref g), some (.int (zI (cAt L Y p0 - 97))), none, none, none, none, none, none] q := fun q μ' hx => by
      obtain ⟨w, w1, w2, w3, w4⟩ := hx
      refine KX q μ' w _ _ _ _ hlt (by omega) ?_ w3 (n3.tr w4) (by omega) (by omega)
      rw [← hV]
      show (eT2 L Y (pOnS L Y (p1, -1000001) 97 104)).2 = w
      rw [on_f w1, w2]
      exact eT2_f (by dsimp only; omega)
    refine z_aload_n hX rfl (by first | rfl | exact va_rf_r _) dX3_edge_26 ?_
    refine zy_ci (zy_rV hX (x_node _ _ hR1 hbr) (cwV 0 hX.ts (lw_V q614 q616 qs13 q80 q617) rfl rfl rfl (by decide +kernel) (zroom (by first | decide | omega) (by decide))) dX3_edge_27 (by first | assumption | exact zu_s _ _ _ | exact zu_o (by assumption) (by assumption) | exact zu_o (by assumption) (zu_o (by assumption) (by assumption)) | exact (zu_o (by first | assumption | exact Ne.symm (by assumption)) (zu_s _ _ _)) | exact (zu_o (by first | assumption | exact Ne.symm (by assumption)) (by assumption)) | exact (zu_o (by first | assumption | exact Ne.symm (by assumption)) (zu_o (by first | assumption | exact Ne.symm (by assumption)) (zu_s _ _ _))) | exact (zu_o (by first | assumption | exact Ne.symm (by assumption)) (zu_o (by first | assumption | exact Ne.symm (by assumption)) (by assumption))) | exact (zu_o (by first | assumption | exact Ne.symm (by assumption)) (zu_o (by first | assumption | exact Ne.symm (by assumption)) (zu_o (by first | assumption | exact Ne.symm (by assumption)) (zu_s _ _ _)))) | exact (zu_o (by first | assumption | exact Ne.symm (by assumption)) (zu_o (by first | assumption | exact Ne.symm (by assumption)) (zu_o (by first | assumption | exact Ne.symm (by assumption)) (by assumption)))) | exact (zu_o (by first | assumption | exact Ne.symm (by assumption)) (zu_o (by first | assumption | exact Ne.symm (by assumption)) (zu_o (by first | assumption | exact Ne.symm (by assumption)) (zu_o (by first | assumption | exact Ne.symm (by assumption)) (zu_s _ _ _))))) | exact (zu_o (by first | assumption | exact Ne.symm (by assumption)) (zu_o (by first | assumption | exact Ne.symm (by assumption)) (zu_o (by first | assumption | exact Ne.symm (by assumption)) (zu_o (by first | assumption | exact Ne.symm (by assumption)) (by assumption))))) | exact AL.at (by assumption) | exact EL.at (by assumption) | exact LL.at (by assumption)) (ci := 3) rfl rfl rfl rfl (by first | exact Nat.le_of_ble_eq_true rfl | simp [va_rf_c, Value.category]) (zhf (by omega) (by omega))) kx2 (fun r_27 μ_27 h_27 => ?_)
    obtain ⟨m1, rfl, m3, m4⟩ := h_27
    refine z_istore_n hX (lv' := [_, _, _, _, _, _, _, _]) (Nat.le_of_ble_eq_true rfl) (by first | exact zpre_0 | exact zpre_n rfl | exact zpre_1 rfl rfl | exact zpre_1 rfl (va_rf_c _)) rfl dX3_edge_30 ?_
    have he2 : eNd L Y (p1, -1000001) = (cAt L Y p1 - 97, (blk L Y (p1 + 1), -1000001)) := by
      have ho := on_t (L := L) (Y := Y) (p := p1) m1
      unfold eNd
      rw [ho.1, ho.2]
    rw [he2] at hV
    have hlp1 := cAt_lt (L := L) (X := Y) (p := p1) (by omega)
    exact J31 _ _ _ _ _ _ hlt (n3.tr m3) m4 (blk_rr hL.1 (by omega) (by omega)) hV (by omega) (by omega)
  have J18 : ∀ b : Bool, b = decide (rs.length < 16) → zW X (zR 8 24 160) E μ 0 0 Q 18 [some (.ref g), none, none, none, none, none, none, none] [.int (zI (zb b)), .ref g] := fun b hb => by
    have kx : ∀ (q : Nat) (μ' : zM), (b = false ∧ μ' q = some (zTF p0) ∧ zKp μ μ') → zyW X (zR 8 24 160) E μ' 1 7 Q 18 [some (.ref g), none, none, none, none, none, none, none] q := fun q μ' hx => by
      have := of_decide_eq_false (hb.symm.trans hx.1)
      rw [← hQ]
      exact zyout hX ht hx.2.1 ⟨p0, hp0, Or.inl ⟨by omega, rfl⟩, hx.2.1, hx.2.2.x _⟩ (by omega) (by omega)
    refine zy_cv (zy_rV hX (x_expect _ _ hw) (cwV 1 hX.ts (lw_V q547 q549 qs11 q80 q550) rfl rfl rfl (by decide +kernel) (zroom (by first | decide | omega) (by decide))) dX3_edge_18 (by first | assumption | exact zu_s _ _ _ | exact zu_o (by assumption) (by assumption) | exact zu_o (by assumption) (zu_o (by assumption) (by assumption)) | exact (zu_o (by first | assumption | exact Ne.symm (by assumption)) (zu_s _ _ _)) | exact (zu_o (by first | assumption | exact Ne.symm (by assumption)) (by assumption)) | exact (zu_o (by first | assumption | exact Ne.symm (by assumption)) (zu_o (by first | assumption | exact Ne.symm (by assumption)) (zu_s _ _ _))) | exact (zu_o (by first | assumption | exact Ne.symm (by assumption)) (zu_o (by first | assumption | exact Ne.symm (by assumption)) (by assumption))) | exact (zu_o (by first | assumption | exact Ne.symm (by assumption)) (zu_o (by first | assumption | exact Ne.symm (by assumption)) (zu_o (by first | assumption | exact Ne.symm (by assumption)) (zu_s _ _ _)))) | exact (zu_o (by first | assumption | exact Ne.symm (by assumption)) (zu_o (by first | assumption | exact Ne.symm (by assumption)) (zu_o (by first | assumption | exact Ne.symm (by assumption)) (by assumption)))) | exact (zu_o (by first | assumption | exact Ne.symm (by assumption)) (zu_o (by first | assumption | exact Ne.symm (by assumption)) (zu_o (by first | assumption | exact Ne.symm (by assumption)) (zu_o (by first | assumption | exact Ne.symm (by assumption)) (zu_s _ _ _))))) | exact (zu_o (by first | assumption | exact Ne.symm (by assumption)) (zu_o (by first | assumption | exact Ne.symm (by assumption)) (zu_o (by first | assumption | exact Ne.symm (by assumption)) (zu_o (by first | assumption | exact Ne.symm (by assumption)) (by assumption))))) | exact AL.at (by assumption) | exact EL.at (by assumption) | exact LL.at (by assumption)) (ci := 3) rfl rfl rfl rfl (by first | exact Nat.le_of_ble_eq_true rfl | simp [va_rf_c, Value.category]) (zhf (by omega) (by omega))) kx (fun μ_18 h_18 => ?_)
    obtain ⟨hb2, rfl⟩ := h_18
    exact J21 (of_decide_eq_true (hb.symm.trans hb2))
  refine z_aload_n hX rfl (by first | rfl | exact va_rf_r _) dX3_edge_0 ?_
  refine z_aload_n hX rfl (by first | rfl | exact va_rf_r _) dX3_edge_1 ?_
  refine z_get hX (C := RX3) (T := TX3) (N := 3) (ci := 3) rfl in_X3 1 (by decide) q529 (Or.inl rfl) dX3_edge_2 (by first | assumption | exact zu_s _ _ _ | exact zu_o (by assumption) (by assumption) | exact zu_o (by assumption) (zu_o (by assumption) (by assumption)) | exact (zu_o (by first | assumption | exact Ne.symm (by assumption)) (zu_s _ _ _)) | exact (zu_o (by first | assumption | exact Ne.symm (by assumption)) (by assumption)) | exact (zu_o (by first | assumption | exact Ne.symm (by assumption)) (zu_o (by first | assumption | exact Ne.symm (by assumption)) (zu_s _ _ _))) | exact (zu_o (by first | assumption | exact Ne.symm (by assumption)) (zu_o (by first | assumption | exact Ne.symm (by assumption)) (by assumption))) | exact (zu_o (by first | assumption | exact Ne.symm (by assumption)) (zu_o (by first | assumption | exact Ne.symm (by assumption)) (zu_o (by first | assumption | exact Ne.symm (by assumption)) (zu_s _ _ _)))) | exact (zu_o (by first | assumption | exact Ne.symm (by assumption)) (zu_o (by first | assumption | exact Ne.symm (by assumption)) (zu_o (by first | assumption | exact Ne.symm (by assumption)) (by assumption)))) | exact (zu_o (by first | assumption | exact Ne.symm (by assumption)) (zu_o (by first | assumption | exact Ne.symm (by assumption)) (zu_o (by first | assumption | exact Ne.symm (by assumption)) (zu_o (by first | assumption | exact Ne.symm (by assumption)) (zu_s _ _ _))))) | exact (zu_o (by first | assumption | exact Ne.symm (by assumption)) (zu_o (by first | assumption | exact Ne.symm (by assumption)) (zu_o (by first | assumption | exact Ne.symm (by assumption)) (zu_o (by first | assumption | exact Ne.symm (by assumption)) (by assumption))))) | exact AL.at (by assumption) | exact EL.at (by assumption) | exact LL.at (by assumption)) rfl ?_
  refine z_calli (z_runV hX (x_size _ _ hA) (cwV 0 hX.ts (lw_V q546 q210 q211 q68 q212) rfl rfl rfl (by decide +kernel) (zroom (by first | decide | omega) (by decide))) dX3_edge_5 (by first | assumption | exact zu_s _ _ _ | exact zu_o (by assumption) (by assumption) | exact zu_o (by assumption) (zu_o (by assumption) (by assumption)) | exact (zu_o (by first | assumption | exact Ne.symm (by assumption)) (zu_s _ _ _)) | exact (zu_o (by first | assumption | exact Ne.symm (by assumption)) (by assumption)) | exact (zu_o (by first | assumption | exact Ne.symm (by assumption)) (zu_o (by first | assumption | exact Ne.symm (by assumption)) (zu_s _ _ _))) | exact (zu_o (by first | assumption | exact Ne.symm (by assumption)) (zu_o (by first | assumption | exact Ne.symm (by assumption)) (by assumption))) | exact (zu_o (by first | assumption | exact Ne.symm (by assumption)) (zu_o (by first | assumption | exact Ne.symm (by assumption)) (zu_o (by first | assumption | exact Ne.symm (by assumption)) (zu_s _ _ _)))) | exact (zu_o (by first | assumption | exact Ne.symm (by assumption)) (zu_o (by first | assumption | exact Ne.symm (by assumption)) (zu_o (by first | assumption | exact Ne.symm (by assumption)) (by assumption)))) | exact (zu_o (by first | assumption | exact Ne.symm (by assumption)) (zu_o (by first | assumption | exact Ne.symm (by assumption)) (zu_o (by first | assumption | exact Ne.symm (by assumption)) (zu_o (by first | assumption | exact Ne.symm (by assumption)) (zu_s _ _ _))))) | exact (zu_o (by first | assumption | exact Ne.symm (by assumption)) (zu_o (by first | assumption | exact Ne.symm (by assumption)) (zu_o (by first | assumption | exact Ne.symm (by assumption)) (zu_o (by first | assumption | exact Ne.symm (by assumption)) (by assumption))))) | exact AL.at (by assumption) | exact EL.at (by assumption) | exact LL.at (by assumption)) (ci := 17) rfl rfl rfl rfl (by first | exact Nat.le_of_ble_eq_true rfl | simp [va_rf_c, Value.category]) (zhf (by omega) (by omega))) (fun r_5 μ_5 h_5 => ?_)
  obtain ⟨rfl, rfl⟩ := h_5
  refine z_bipush hX (by decide) dX3_edge_8 ?_
  refine z_icmp_ge hX (by omega) (by omega) dX3_edge_10 (tgt := 17) rfl (fun h_10 => ?_) (fun h_10 => ?_)
  · refine z_iconst hX dX3_edge_17 ?_
    exact J18 false (decide_eq_false (by omega)).symm
  · refine z_iconst hX dX3_edge_13 ?_
    refine z_goto hX (tgt := 18) dX3_edge_14 rfl ?_
    exact J18 true (decide_eq_true (by omega)).symm
