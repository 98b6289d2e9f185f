/-! MODEL 20: an edge is read, a whole text -/
set_option maxRecDepth 100000
def eNd (L : Int) (Y : Int → Int) (q : pSt) : Int × pSt := (pOn L Y q 97 104 - 97, pOnS L Y q 97 104)
def eWt (L : Int) (Y : Int → Int) (q : pSt) : Int × pSt := (if pTk L Y q 45 = true then - pNu L Y (pTkS L Y q 45) else pNu L Y (pTkS L Y q 45), pNuS L Y (pTkS L Y q 45) 0 99)
def eTm (L : Int) (Y : Int → Int) (q : pSt) : Int × pSt := if pTk L Y q 116 = true then (pOn L Y (pTkS L Y q 116) 49 57 - 48, pOnS L Y (pTkS L Y q 116) 49 57) else (1, pTkS L Y q 116)
def eSg (L : Int) (Y : Int → Int) (q : pSt) : Int × pSt := (if pTk L Y q 45 = true then - (pOn L Y (pTkS L Y q 45) 48 57 - 48) else pOn L Y (pTkS L Y q 45) 48 57 - 48, pOnS L Y (pTkS L Y q 45) 48 57)
def eSl (L : Int) (Y : Int → Int) (q : pSt) : Int × pSt := if pTk L Y q 115 = true then eSg L Y (pTkS L Y q 115) else (0, pTkS L Y q 115)
/-- a mark that must stand here -/
def eMu (L : Int) (Y : Int → Int) (q : pSt) (c : Int) : pSt := if pTk L Y q c = true then pTkS L Y q c else pFa (pTkS L Y q c) (pTkS L Y q c).1
def eNu (L : Int) (Y : Int → Int) (q : pSt) : Int × pSt := (pNu L Y q, pNuS L Y q 1 30)
/-- the row of an edge -/
def rdZ (F : Int → Int) (b v0 v1 v2 v4 v3 v5 v6 : Int) : Int → Int := zf (zf (zf (zf (zf (zf (zf F b v0) (b + 1) v1) (b + 2) v2) (b + 4) v4) (b + 3) v3) (b + 5) v5) (b + 6) v6
/-- the rate -/
def eRt (L : Int) (Y : Int → Int) (q : pSt) : (Int × Int) × pSt :=
  if pTk L Y q 114 = true then
    ((pNu L Y (pTkS L Y q 114), pNu L Y (eMu L Y (pNuS L Y (pTkS L Y q 114) 1 30) 47)), pNuS L Y (eMu L Y (pNuS L Y (pTkS L Y q 114) 1 30) 47) 1 30)
  else ((1, 1), pTkS L Y q 114)
theorem eMu_v {L : Int} {Y : Int → Int} {q : pSt} {c : Int} (hL : L ≤ 150) (h : qV L q) (hc : 0 ≤ c) : qV L (eMu L Y q c) := by
  have h1 := pTkS_v (X := Y) h hc
  have h2 := h1.1
  unfold eMu
  split
  · exact h1
  · exact pFa_v h1 (by omega)
theorem eTm_v {L : Int} {Y : Int → Int} {q : pSt} (hL : L ≤ 150) (h : qV L q) : qV L (eTm L Y q).2 := by
  have h1 := pTkS_v (X := Y) (c := 116) h (by omega)
  unfold eTm
  split
  · exact pOnS_v hL h1 (by omega)
  · exact h1
theorem eSl_v {L : Int} {Y : Int → Int} {q : pSt} (hL : L ≤ 150) (h : qV L q) : qV L (eSl L Y q).2 := by
  have h1 := pTkS_v (X := Y) (c := 115) h (by omega)
  unfold eSl
  split
  · exact pOnS_v hL (pTkS_v h1 (by omega)) (by omega)
  · exact h1
theorem eRt_v {L : Int} {Y : Int → Int} {q : pSt} (hL : L ≤ 150) (h : qV L q) : qV L (eRt L Y q).2 := by
  have h1 := pTkS_v (X := Y) (c := 114) h (by omega)
  unfold eRt
  split
  · exact pNuS_v hL (eMu_v hL (pNuS_v hL h1) (by omega))
  · exact h1
/-- one edge -/
abbrev rdV : Type := Int × Int × Int × Int × Int × Int × Int
def rdF (L : Int) (Y : Int → Int) (q : pSt) : rdV × pSt :=
  (((eNd L Y q).1, (eNd L Y (eNd L Y q).2).1, (eWt L Y (eNd L Y (eNd L Y q).2).2).1, (eTm L Y (eWt L Y (eNd L Y (eNd L Y q).2).2).2).1, (eSl L Y (eTm L Y (eWt L Y (eNd L Y (eNd L Y q).2).2).2).2).1, (eRt L Y (eSl L Y (eTm L Y (eWt L Y (eNd L Y (eNd L Y q).2).2).2).2).2).1.1, (eRt L Y (eSl L Y (eTm L Y (eWt L Y (eNd L Y (eNd L Y q).2).2).2).2).2).1.2),
    eMu L Y (eRt L Y (eSl L Y (eTm L Y (eWt L Y (eNd L Y (eNd L Y q).2).2).2).2).2).2 59)
def rdW (F : Int → Int) (k : Int) (v : rdV) : Int → Int := rdZ F (7 * k) v.1 v.2.1 v.2.2.1 v.2.2.2.1 v.2.2.2.2.1 v.2.2.2.2.2.1 v.2.2.2.2.2.2
theorem mTxt_13 {s : Nat → Int} {A : Nat → Int → Int} {L : Int} {Y : Int → Int} {q : pSt} (h : mTxt s A L Y q) (F : Int → Int) : mTxt s (zg A 13 F) L Y q := ⟨⟨h.1.1, (zg_n (by decide)).trans h.1.2.1, h.1.2.2⟩, h.2⟩
theorem zf_zf2 {α : Type} (f : Int → α) (k : Int) (v w : α) : zf (zf f k v) k w = zf f k w := by
  funext j
  simp only [zf]
  split <;> rfl
theorem m_readsEdge (l : Launch) (E : zE) {ν : zM} {m0 : Nat} {ad : Nat → Nat} {s : Nat → Int} {A : Nat → Int → Int} (hD : mD m0 ad) {L : Int} {Y : Int → Int} {q : pSt} (h : mTxt s A L Y q) {k : Int} (h14 : s 14 = k) (hk : 0 ≤ k ∧ k ≤ 16) : Met l yX1_readsEdge (ws_ yX1_readsEdge cX1_readsEdge 6 none) (zR 3 0 0) (va_Pc [.ref m0] (zPre E (mM E ν m0 ad s A))) (zQv E (fun μ' => (if k = 16 then mM E ν m0 ad (pW s (pFa q q.1)) A else mM E ν m0 ad (zg (pW s (rdF L Y q).2) 14 (k + 1)) (zg A 13 (rdW (A 13) k (rdF L Y q).1))) = μ')) 0 0 (zA E) := by
  have hT := h
  obtain ⟨⟨h5, h4, h15, h16⟩, ht, hq⟩ := h
  have hL := ht.1
  have hq1 := hq.1
  have hT0 : ∀ r F, qV L r → mTxt (pW s r) (zg A 13 F) L Y r := fun r F hr => mTxt_13 (mTxt_w hT hr) F
  subst h14
  refine zmet (cc := cX1_readsEdge) [_, _, _, _, _, _] (by decide) (Nat.le_of_ble_eq_true rfl) rfl rfl ?_
  intro X hl hX hinit; subst hl
  have hX : zOK X _ cX1_readsEdge RX1 none 6 := hX
  generalize hQ : MQ _ _ _ _ _ _ _ = Q
  generalize hTG : mM E ν m0 ad (zg (pW s (rdF L Y q).2) 14 (s 14 + 1)) (zg A 13 (rdW (A 13) (s 14) (rdF L Y q).1)) = TG at hQ
  have fin : ∀ (r : pSt) (F : Int → Int), qV L r → ¬ s 14 = 16 → mM E ν m0 ad (zg (pW s (eMu L Y r 59)) 14 (s 14 + 1)) (zg A 13 F) = TG → ∀ y1 y2 y3 y4 y5, zW X (zR 3 0 0) E (mM E ν m0 ad (pW s r) (zg A 13 F)) 0 0 Q 266 [some (.ref m0), y1, y2, y3, y4, y5] [] := by
    intro r F hr h16' he y1 y2 y3 y4 y5
    refine zW.mask [true, false, false, false, false, false] (lv' := [_, none, none, none, none, none]) rfl ?_
    have hv := pTkS_v (X := Y) (c := 59) hr (by omega)
    have hv1 := hv.1
    have out : ∀ r2 : pSt, r2 = eMu L Y r 59 → zW X (zR 3 0 0) E (mM E ν m0 ad (pW s r2) (zg A 13 F)) 0 0 Q 283 [some (.ref m0), none, none, none, none, none] [] := by
      intro r2 h2
      subst h2
      refine z_aload_n hX rfl (by first | rfl | exact va_rf_r _) dX1_readsEdge_283 ?_
      refine z_dup hX (by first | rfl | exact va_rf_c _) dX1_readsEdge_284 ?_
      refine zm_get hX 14 (by decide) q1384 dX1_readsEdge_285 rfl rfl ?_
      refine z_iconst hX dX1_readsEdge_288 ?_
      refine z_iadd hX dX1_readsEdge_289 ?_
      refine zm_puti hX hD 14 (by decide) q1384 dX1_readsEdge_290 rfl mset_14 ?_
      (try rw [← hQ])
      refine z_return hX dX1_readsEdge_293 (by omega) (by omega) ?_
      rw [if_neg h16']
      exact he.symm
    refine z_aload_n hX rfl (by first | rfl | exact va_rf_r _) dX1_readsEdge_266 ?_
    refine z_bipush hX (by decide) dX1_readsEdge_267 ?_
    refine z_callb (z_runV hX (m_takes _ _ hD (hT0 r F hr) (by omega)) (cwV 1 hX.ts (lw_V q1580 q1582 qs40 q71 q1583) rfl rfl rfl (by decide +kernel) (zroom (by decide) (by decide))) dX1_readsEdge_269 mM_0 (ci := 1) rfl rfl rfl rfl (by first | exact Nat.le_of_ble_eq_true rfl | simp [va_rf_c, Value.category]) (zhf (by omega) (by omega))) (fun r_269 μ_269 h_269 => ?_)
    obtain ⟨rfl, rfl⟩ := h_269; rw [pW_pW]
    refine z_if_ne_b hX dX1_readsEdge_272 (tgt := 283) rfl (fun h_272 => ?_) (fun h_272 => ?_)
    · refine out _ ?_
      rw [eMu, if_pos h_272]
    · have e15 : pW s (pTkS L Y r 59) 15 = (pTkS L Y r 59).1 := rfl
      refine z_aload_n hX rfl (by first | rfl | exact va_rf_r _) dX1_readsEdge_275 ?_
      refine z_aload_n hX rfl (by first | rfl | exact va_rf_r _) dX1_readsEdge_276 ?_
      refine zm_get hX 15 (by decide) q1385 dX1_readsEdge_277 rfl rfl ?_
      refine z_callv (z_runV hX (m_fails _ _ hD (hT0 _ F hv) (by omega)) (cwV 1 hX.ts (lw_V q1572 q1574 qs38 q71 q1575) rfl rfl rfl (by decide +kernel) (zroom (by decide) (by decide))) dX1_readsEdge_280 mM_0 (ci := 1) rfl rfl rfl rfl (by first | exact Nat.le_of_ble_eq_true rfl | simp [va_rf_c, Value.category]) (zhf (by omega) (by omega))) (fun μ_280 h_280 => ?_)
      obtain rfl := h_280; rw [pW_pW, e15]
      refine out _ ?_
      rw [eMu, if_neg (by rw [h_272]; decide)]
  have rate : ∀ (r : pSt) (F : Int → Int), qV L r → ¬ s 14 = 16 → mM E ν m0 ad (zg (pW s (eMu L Y (eRt L Y r).2 59)) 14 (s 14 + 1)) (zg A 13 (zf (zf F (7 * s 14 + 5) (eRt L Y r).1.1) (7 * s 14 + 6) (eRt L Y r).1.2)) = TG → ∀ y2 y3 y4 y5, zW X (zR 3 0 0) E (mM E ν m0 ad (pW s r) (zg A 13 F)) 0 0 Q 187 [some (.ref m0), some (.int (zI (7 * s 14))), y2, y3, y4, y5] [] := by
    intro r F hr h16' he y2 y3 y4 y5
    refine zW.mask [true, true, false, false, false, false] (lv' := [_, _, none, none, none, none]) rfl ?_
    have hv := pTkS_v (X := Y) (c := 114) hr (by omega)
    have hv1 := hv.1
    refine z_aload_n hX rfl (by first | rfl | exact va_rf_r _) dX1_readsEdge_187 ?_
    refine z_bipush hX (by decide) dX1_readsEdge_188 ?_
    refine z_callb (z_runV hX (m_takes _ _ hD (hT0 r F hr) (by omega)) (cwV 1 hX.ts (lw_V q1580 q1582 qs40 q71 q1583) rfl rfl rfl (by decide +kernel) (zroom (by decide) (by decide))) dX1_readsEdge_190 mM_0 (ci := 1) rfl rfl rfl rfl (by first | exact Nat.le_of_ble_eq_true rfl | simp [va_rf_c, Value.category]) (zhf (by omega) (by omega))) (fun r_190 μ_190 h_190 => ?_)
    obtain ⟨rfl, hb⟩ := h_190; rw [pW_pW]
    refine z_istore hX (lv' := [_, _, _, _, _, _]) (Nat.le_of_ble_eq_true rfl) (by first | exact zpre_0 | exact zpre_n rfl | exact zpre_1 rfl rfl | exact zpre_1 rfl (va_rf_c _)) rfl dX1_readsEdge_193 ?_
    subst hb
    by_cases hb : pTk L Y r 114 = true
    · simp only [eRt, if_pos hb] at he
      rw [hb]
      refine z_aload_n hX rfl (by first | rfl | exact va_rf_r _) dX1_readsEdge_195 ?_
      refine zm_get hX 13 (by decide) q1383 dX1_readsEdge_196 rfl rfl ?_
      refine z_iload_n hX rfl dX1_readsEdge_199 ?_
      refine z_iconst hX dX1_readsEdge_200 ?_
      refine z_iadd hX dX1_readsEdge_201 ?_
      refine z_iload hX rfl dX1_readsEdge_202 ?_
      refine z_if_eq_b hX dX1_readsEdge_204 (tgt := 217) rfl (fun h_204 => ?_) (fun h_204 => ?_)
      · exact absurd h_204 (by decide)
      · have hv2 : qV L (pNuS L Y (pTkS L Y r 114) 1 30) := pNuS_v hL.2 hv
        refine z_aload_n hX rfl (by first | rfl | exact va_rf_r _) dX1_readsEdge_207 ?_
        refine z_iconst hX dX1_readsEdge_208 ?_
        refine z_bipush hX (by decide) dX1_readsEdge_209 ?_
        refine z_calli (z_runV hX (m_number _ _ hD (hT0 _ F hv) (by omega) (by omega)) (cwV 2 hX.ts (lw_V q1584 q1586 qs41 q71 q1587) rfl rfl rfl (by decide +kernel) (zroom (by decide) (by decide))) dX1_readsEdge_211 mM_0 (ci := 1) rfl rfl rfl rfl (by first | exact Nat.le_of_ble_eq_true rfl | simp [va_rf_c, Value.category]) (zhf (by omega) (by omega))) (fun r_211 μ_211 h_211 => ?_)
        obtain ⟨rfl, rfl⟩ := h_211; rw [pW_pW]
        refine z_goto hX (tgt := 218) dX1_readsEdge_214 rfl ?_
        refine zm_iastore hX hD 13 (by decide) (by decide) 112 rfl dX1_readsEdge_218 (by omega) ?_
        rw [zg_zg, zg_s]
        have join : ∀ r3 : pSt, qV L r3 → r3 = eMu L Y (pNuS L Y (pTkS L Y r 114) 1 30) 47 → zW X (zR 3 0 0) E (mM E ν m0 ad (pW s r3) (zg A 13 (zf F (7 * s 14 + 5) (pNu L Y (pTkS L Y r 114))))) 0 0 Q 241 [some (.ref m0), some (.int (zI (7 * s 14))), none, none, some (.int (zI (zb true))), none] [] := by
          intro r3 hv3 h3
          subst h3
          refine z_aload_n hX rfl (by first | rfl | exact va_rf_r _) dX1_readsEdge_241 ?_
          refine zm_get hX 13 (by decide) q1383 dX1_readsEdge_242 rfl rfl ?_
          refine z_iload_n hX rfl dX1_readsEdge_245 ?_
          refine z_bipush hX (by decide) dX1_readsEdge_246 ?_
          refine z_iadd hX dX1_readsEdge_248 ?_
          refine z_iload hX rfl dX1_readsEdge_249 ?_
          refine z_if_eq_b hX dX1_readsEdge_251 (tgt := 264) rfl (fun h_251 => ?_) (fun h_251 => ?_)
          · exact absurd h_251 (by decide)
          · refine z_aload_n hX rfl (by first | rfl | exact va_rf_r _) dX1_readsEdge_254 ?_
            refine z_iconst hX dX1_readsEdge_255 ?_
            refine z_bipush hX (by decide) dX1_readsEdge_256 ?_
            refine z_calli (z_runV hX (m_number _ _ hD (hT0 _ _ hv3) (by omega) (by omega)) (cwV 2 hX.ts (lw_V q1584 q1586 qs41 q71 q1587) rfl rfl rfl (by decide +kernel) (zroom (by decide) (by decide))) dX1_readsEdge_258 mM_0 (ci := 1) rfl rfl rfl rfl (by first | exact Nat.le_of_ble_eq_true rfl | simp [va_rf_c, Value.category]) (zhf (by omega) (by omega))) (fun r_258 μ_258 h_258 => ?_)
            obtain ⟨rfl, rfl⟩ := h_258; rw [pW_pW]
            refine z_goto hX (tgt := 265) dX1_readsEdge_261 rfl ?_
            refine zm_iastore hX hD 13 (by decide) (by decide) 112 rfl dX1_readsEdge_265 (by omega) ?_
            rw [zg_zg, zg_s]
            exact fin _ _ (pNuS_v hL.2 hv3) h16' he _ _ _ _ _
        have hv3 := eMu_v (Y := Y) (c := 47) hL.2 hv2 (by omega)
        have hv4 := pTkS_v (X := Y) (c := 47) hv2 (by omega)
        have hv41 := hv4.1
        refine z_iload hX rfl dX1_readsEdge_219 ?_
        refine z_if_eq_b hX dX1_readsEdge_221 (tgt := 241) rfl (fun h_221 => ?_) (fun h_221 => ?_)
        · exact absurd h_221 (by decide)
        · refine z_aload_n hX rfl (by first | rfl | exact va_rf_r _) dX1_readsEdge_224 ?_
          refine z_bipush hX (by decide) dX1_readsEdge_225 ?_
          refine z_callb (z_runV hX (m_takes _ _ hD (hT0 _ _ hv2) (by omega)) (cwV 1 hX.ts (lw_V q1580 q1582 qs40 q71 q1583) rfl rfl rfl (by decide +kernel) (zroom (by decide) (by decide))) dX1_readsEdge_227 mM_0 (ci := 1) rfl rfl rfl rfl (by first | exact Nat.le_of_ble_eq_true rfl | simp [va_rf_c, Value.category]) (zhf (by omega) (by omega))) (fun r_227 μ_227 h_227 => ?_)
          obtain ⟨rfl, rfl⟩ := h_227; rw [pW_pW]
          refine z_if_ne_b hX dX1_readsEdge_230 (tgt := 241) rfl (fun h_230 => ?_) (fun h_230 => ?_)
          · refine join _ hv4 ?_
            rw [eMu, if_pos h_230]
          · have e15 : pW s (pTkS L Y (pNuS L Y (pTkS L Y r 114) 1 30) 47) 15 = (pTkS L Y (pNuS L Y (pTkS L Y r 114) 1 30) 47).1 := rfl
            refine z_aload_n hX rfl (by first | rfl | exact va_rf_r _) dX1_readsEdge_233 ?_
            refine z_aload_n hX rfl (by first | rfl | exact va_rf_r _) dX1_readsEdge_234 ?_
            refine zm_get hX 15 (by decide) q1385 dX1_readsEdge_235 rfl rfl ?_
            refine z_callv (z_runV hX (m_fails _ _ hD (hT0 _ _ hv4) (by omega)) (cwV 1 hX.ts (lw_V q1572 q1574 qs38 q71 q1575) rfl rfl rfl (by decide +kernel) (zroom (by decide) (by decide))) dX1_readsEdge_238 mM_0 (ci := 1) rfl rfl rfl rfl (by first | exact Nat.le_of_ble_eq_true rfl | simp [va_rf_c, Value.category]) (zhf (by omega) (by omega))) (fun μ_238 h_238 => ?_)
            obtain rfl := h_238; rw [pW_pW, e15]
            refine join _ (pFa_v hv4 (by omega)) ?_
            rw [eMu, if_neg (by rw [h_230]; decide)]
    · have hb' : pTk L Y r 114 = false := by simpa using hb
      simp only [eRt, if_neg hb] at he
      rw [hb']
      refine z_aload_n hX rfl (by first | rfl | exact va_rf_r _) dX1_readsEdge_195 ?_
      refine zm_get hX 13 (by decide) q1383 dX1_readsEdge_196 rfl rfl ?_
      refine z_iload_n hX rfl dX1_readsEdge_199 ?_
      refine z_iconst hX dX1_readsEdge_200 ?_
      refine z_iadd hX dX1_readsEdge_201 ?_
      refine z_iload hX rfl dX1_readsEdge_202 ?_
      refine z_if_eq_b hX dX1_readsEdge_204 (tgt := 217) rfl (fun h_204 => ?_) (fun h_204 => ?_)
      · refine z_iconst hX dX1_readsEdge_217 ?_
        refine zm_iastore hX hD 13 (by decide) (by decide) 112 rfl dX1_readsEdge_218 (by omega) ?_
        rw [zg_zg, zg_s]
        refine z_iload hX rfl dX1_readsEdge_219 ?_
        refine z_if_eq_b hX dX1_readsEdge_221 (tgt := 241) rfl (fun h_221 => ?_) (fun h_221 => ?_)
        · refine z_aload_n hX rfl (by first | rfl | exact va_rf_r _) dX1_readsEdge_241 ?_
          refine zm_get hX 13 (by decide) q1383 dX1_readsEdge_242 rfl rfl ?_
          refine z_iload_n hX rfl dX1_readsEdge_245 ?_
          refine z_bipush hX (by decide) dX1_readsEdge_246 ?_
          refine z_iadd hX dX1_readsEdge_248 ?_
          refine z_iload hX rfl dX1_readsEdge_249 ?_
          refine z_if_eq_b hX dX1_readsEdge_251 (tgt := 264) rfl (fun h_251 => ?_) (fun h_251 => ?_)
          · refine z_iconst hX dX1_readsEdge_264 ?_
            refine zm_iastore hX hD 13 (by decide) (by decide) 112 rfl dX1_readsEdge_265 (by omega) ?_
            rw [zg_zg, zg_s]
            exact fin _ _ hv h16' he _ _ _ _ _
          · exact absurd h_251 (by decide)
        · exact absurd h_221 (by decide)
      · exact absurd h_204 (by decide)
  have slope : ∀ (r : pSt) (F : Int → Int), qV L r → ¬ s 14 = 16 → mM E ν m0 ad (zg (pW s (eMu L Y (eRt L Y (eSl L Y r).2).2 59)) 14 (s 14 + 1)) (zg A 13 (zf (zf (zf F (7 * s 14 + 3) (eSl L Y r).1) (7 * s 14 + 5) (eRt L Y (eSl L Y r).2).1.1) (7 * s 14 + 6) (eRt L Y (eSl L Y r).2).1.2)) = TG → ∀ y2 y3 y4 y5, zW X (zR 3 0 0) E (mM E ν m0 ad (pW s r) (zg A 13 F)) 0 0 Q 127 [some (.ref m0), some (.int (zI (7 * s 14))), y2, y3, y4, y5] [] := by
    intro r F hr h16' he y2 y3 y4 y5
    refine zW.mask [true, true, false, false, false, false] (lv' := [_, _, none, none, none, none]) rfl ?_
    have hv := pTkS_v (X := Y) (c := 115) hr (by omega)
    refine z_aload_n hX rfl (by first | rfl | exact va_rf_r _) dX1_readsEdge_127 ?_
    refine zm_get hX 13 (by decide) q1383 dX1_readsEdge_128 rfl rfl ?_
    refine z_iload_n hX rfl dX1_readsEdge_131 ?_
    refine z_iconst hX dX1_readsEdge_132 ?_
    refine z_iadd hX dX1_readsEdge_133 ?_
    refine z_iconst hX dX1_readsEdge_134 ?_
    refine zm_iastore hX hD 13 (by decide) (by decide) 112 rfl dX1_readsEdge_135 (by omega) ?_
    rw [zg_zg, zg_s]
    refine z_aload_n hX rfl (by first | rfl | exact va_rf_r _) dX1_readsEdge_136 ?_
    refine z_bipush hX (by decide) dX1_readsEdge_137 ?_
    refine z_callb (z_runV hX (m_takes _ _ hD (hT0 r _ hr) (by omega)) (cwV 1 hX.ts (lw_V q1580 q1582 qs40 q71 q1583) rfl rfl rfl (by decide +kernel) (zroom (by decide) (by decide))) dX1_readsEdge_139 mM_0 (ci := 1) rfl rfl rfl rfl (by first | exact Nat.le_of_ble_eq_true rfl | simp [va_rf_c, Value.category]) (zhf (by omega) (by omega))) (fun r_139 μ_139 h_139 => ?_)
    obtain ⟨rfl, rfl⟩ := h_139; rw [pW_pW]
    refine z_if_eq_b hX dX1_readsEdge_142 (tgt := 187) rfl (fun h_142 => ?_) (fun h_142 => ?_)
    · simp only [eSl, if_neg (show ¬ pTk L Y r 115 = true by rw [h_142]; decide)] at he
      exact rate _ _ hv h16' he _ _ _ _
    · simp only [eSl, if_pos h_142, eSg] at he
      have hv2 := pTkS_v (X := Y) (c := 45) hv (by omega)
      have hv3 : qV L (pOnS L Y (pTkS L Y (pTkS L Y r 115) 45) 48 57) := pOnS_v hL.2 hv2 (by omega)
      refine z_aload_n hX rfl (by first | rfl | exact va_rf_r _) dX1_readsEdge_145 ?_
      refine z_bipush hX (by decide) dX1_readsEdge_146 ?_
      refine z_callb (z_runV hX (m_takes _ _ hD (hT0 _ _ hv) (by omega)) (cwV 1 hX.ts (lw_V q1580 q1582 qs40 q71 q1583) rfl rfl rfl (by decide +kernel) (zroom (by decide) (by decide))) dX1_readsEdge_148 mM_0 (ci := 1) rfl rfl rfl rfl (by first | exact Nat.le_of_ble_eq_true rfl | simp [va_rf_c, Value.category]) (zhf (by omega) (by omega))) (fun r_148 μ_148 h_148 => ?_)
      obtain ⟨rfl, hb⟩ := h_148; rw [pW_pW]
      refine z_istore hX (lv' := [_, _, _, _, _, _]) (Nat.le_of_ble_eq_true rfl) (by first | exact zpre_0 | exact zpre_n rfl | exact zpre_1 rfl rfl | exact zpre_1 rfl (va_rf_c _)) rfl dX1_readsEdge_151 ?_
      subst hb
      have hor : -127 ≤ pOn L Y (pTkS L Y (pTkS L Y r 115) 45) 48 57 ∧ pOn L Y (pTkS L Y (pTkS L Y r 115) 45) 48 57 ≤ 127 := by
        have hcr := cAt_r ht hv2.1.1
        unfold pOn
        split <;> omega
      refine z_aload_n hX rfl (by first | rfl | exact va_rf_r _) dX1_readsEdge_153 ?_
      refine z_bipush hX (by decide) dX1_readsEdge_154 ?_
      refine z_bipush hX (by decide) dX1_readsEdge_156 ?_
      refine z_calli (z_runV hX (m_one _ _ hD (hT0 _ _ hv2) (by omega) (by omega)) (cwV 2 hX.ts (lw_V q1576 q1578 qs39 q71 q1579) rfl rfl rfl (by decide +kernel) (zroom (by decide) (by decide))) dX1_readsEdge_158 mM_0 (ci := 1) rfl rfl rfl rfl (by first | exact Nat.le_of_ble_eq_true rfl | simp [va_rf_c, Value.category]) (zhf (by omega) (by omega))) (fun r_158 μ_158 h_158 => ?_)
      obtain ⟨rfl, rfl⟩ := h_158; rw [pW_pW]
      refine z_bipush hX (by decide) dX1_readsEdge_161 ?_
      refine z_isub hX dX1_readsEdge_163 ?_
      refine z_istore hX (lv' := [_, _, _, _, _, _]) (Nat.le_of_ble_eq_true rfl) (by first | exact zpre_0 | exact zpre_n rfl | exact zpre_1 rfl rfl | exact zpre_1 rfl (va_rf_c _)) rfl dX1_readsEdge_164 ?_
      refine z_aload_n hX rfl (by first | rfl | exact va_rf_r _) dX1_readsEdge_166 ?_
      refine zm_get hX 13 (by decide) q1383 dX1_readsEdge_167 rfl rfl ?_
      refine z_iload_n hX rfl dX1_readsEdge_170 ?_
      refine z_iconst hX dX1_readsEdge_171 ?_
      refine z_iadd hX dX1_readsEdge_172 ?_
      refine z_iload hX rfl dX1_readsEdge_173 ?_
      refine z_if_eq_b hX dX1_readsEdge_175 (tgt := 184) rfl (fun h_175 => ?_) (fun h_175 => ?_)
      · rw [if_neg (by rw [h_175]; decide)] at he
        refine z_iload hX rfl dX1_readsEdge_184 ?_
        refine zm_iastore hX hD 13 (by decide) (by decide) 112 rfl dX1_readsEdge_186 (by omega) ?_
        rw [zg_zg, zg_s, zf_zf2]
        exact rate _ _ hv3 h16' he _ _ _ _
      · rw [if_pos h_175] at he
        refine z_iload hX rfl dX1_readsEdge_178 ?_
        refine z_ineg hX dX1_readsEdge_180 ?_
        refine z_goto hX (tgt := 186) dX1_readsEdge_181 rfl ?_
        refine zm_iastore hX hD 13 (by decide) (by decide) 112 rfl dX1_readsEdge_186 (by omega) ?_
        rw [zg_zg, zg_s, zf_zf2]
        exact rate _ _ hv3 h16' he _ _ _ _
  have time : ∀ (r : pSt) (F : Int → Int), qV L r → ¬ s 14 = 16 → mM E ν m0 ad (zg (pW s (eMu L Y (eRt L Y (eSl L Y (eTm L Y r).2).2).2 59)) 14 (s 14 + 1)) (zg A 13 (zf (zf (zf (zf F (7 * s 14 + 4) (eTm L Y r).1) (7 * s 14 + 3) (eSl L Y (eTm L Y r).2).1) (7 * s 14 + 5) (eRt L Y (eSl L Y (eTm L Y r).2).2).1.1) (7 * s 14 + 6) (eRt L Y (eSl L Y (eTm L Y r).2).2).1.2)) = TG → ∀ y2 y3 y4 y5, zW X (zR 3 0 0) E (mM E ν m0 ad (pW s r) (zg A 13 F)) 0 0 Q 95 [some (.ref m0), some (.int (zI (7 * s 14))), y2, y3, y4, y5] [] := by
    intro r F hr h16' he y2 y3 y4 y5
    refine zW.mask [true, true, false, false, false, false] (lv' := [_, _, none, none, none, none]) rfl ?_
    have hv := pTkS_v (X := Y) (c := 116) hr (by omega)
    refine z_aload_n hX rfl (by first | rfl | exact va_rf_r _) dX1_readsEdge_95 ?_
    refine zm_get hX 13 (by decide) q1383 dX1_readsEdge_96 rfl rfl ?_
    refine z_iload_n hX rfl dX1_readsEdge_99 ?_
    refine z_iconst hX dX1_readsEdge_100 ?_
    refine z_iadd hX dX1_readsEdge_101 ?_
    refine z_aload_n hX rfl (by first | rfl | exact va_rf_r _) dX1_readsEdge_102 ?_
    refine z_bipush hX (by decide) dX1_readsEdge_103 ?_
    refine z_callb (z_runV hX (m_takes _ _ hD (hT0 r _ hr) (by omega)) (cwV 1 hX.ts (lw_V q1580 q1582 qs40 q71 q1583) rfl rfl rfl (by decide +kernel) (zroom (by decide) (by decide))) dX1_readsEdge_105 mM_0 (ci := 1) rfl rfl rfl rfl (by first | exact Nat.le_of_ble_eq_true rfl | simp [va_rf_c, Value.category]) (zhf (by omega) (by omega))) (fun r_105 μ_105 h_105 => ?_)
    obtain ⟨rfl, rfl⟩ := h_105; rw [pW_pW]
    refine z_if_eq_b hX dX1_readsEdge_108 (tgt := 125) rfl (fun h_108 => ?_) (fun h_108 => ?_)
    · simp only [eTm, if_neg (show ¬ pTk L Y r 116 = true by rw [h_108]; decide)] at he
      refine z_iconst hX dX1_readsEdge_125 ?_
      refine zm_iastore hX hD 13 (by decide) (by decide) 112 rfl dX1_readsEdge_126 (by omega) ?_
      rw [zg_zg, zg_s]
      exact slope _ _ hv h16' he _ _ _ _
    · simp only [eTm, if_pos h_108] at he
      refine z_aload_n hX rfl (by first | rfl | exact va_rf_r _) dX1_readsEdge_111 ?_
      refine z_bipush hX (by decide) dX1_readsEdge_112 ?_
      refine z_bipush hX (by decide) dX1_readsEdge_114 ?_
      refine z_calli (z_runV hX (m_one _ _ hD (hT0 _ _ hv) (by omega) (by omega)) (cwV 2 hX.ts (lw_V q1576 q1578 qs39 q71 q1579) rfl rfl rfl (by decide +kernel) (zroom (by decide) (by decide))) dX1_readsEdge_116 mM_0 (ci := 1) rfl rfl rfl rfl (by first | exact Nat.le_of_ble_eq_true rfl | simp [va_rf_c, Value.category]) (zhf (by omega) (by omega))) (fun r_116 μ_116 h_116 => ?_)
      obtain ⟨rfl, rfl⟩ := h_116; rw [pW_pW]
      refine z_bipush hX (by decide) dX1_readsEdge_119 ?_
      refine z_isub hX dX1_readsEdge_121 ?_
      refine z_goto hX (tgt := 126) dX1_readsEdge_122 rfl ?_
      refine zm_iastore hX hD 13 (by decide) (by decide) 112 rfl dX1_readsEdge_126 (by omega) ?_
      rw [zg_zg, zg_s]
      exact slope _ _ (pOnS_v hL.2 hv (by omega)) h16' he _ _ _ _
  refine z_aload_n hX rfl (by first | rfl | exact va_rf_r _) dX1_readsEdge_0 ?_
  refine zm_get hX 14 (by decide) q1384 dX1_readsEdge_1 rfl rfl ?_
  refine z_bipush hX (by decide) dX1_readsEdge_4 ?_
  refine z_icmp_ne hX (by omega) (by omega) dX1_readsEdge_6 (tgt := 18) rfl (fun h_6 => ?_) (fun h_6 => ?_)
  · refine z_bipush hX (by decide) dX1_readsEdge_18 ?_
    refine z_aload_n hX rfl (by first | rfl | exact va_rf_r _) dX1_readsEdge_20 ?_
    refine zm_get hX 14 (by decide) q1384 dX1_readsEdge_21 rfl rfl ?_
    refine z_imul hX dX1_readsEdge_24 ?_
    refine z_istore_n hX (lv' := [_, _, _, _, _, _]) (Nat.le_of_ble_eq_true rfl) (by first | exact zpre_0 | exact zpre_n rfl | exact zpre_1 rfl rfl | exact zpre_1 rfl (va_rf_c _)) rfl dX1_readsEdge_25 ?_
    have hk' : ¬ s 14 = 16 := h_6
    have v1 : qV L (eNd L Y q).2 := pOnS_v hL.2 hq (by omega)
    have v2 : qV L (eNd L Y (eNd L Y q).2).2 := pOnS_v hL.2 v1 (by omega)
    have v3 := pTkS_v (X := Y) (c := 45) v2 (by omega)
    have v4 : qV L (eWt L Y (eNd L Y (eNd L Y q).2).2).2 := pNuS_v hL.2 v3
    have n1 := (pNuR_r (X := Y) v3).1
    refine z_aload_n hX rfl (by first | rfl | exact va_rf_r _) dX1_readsEdge_26 ?_
    refine zm_get hX 13 (by decide) q1383 dX1_readsEdge_27 rfl rfl ?_
    refine z_iload_n hX rfl dX1_readsEdge_30 ?_
    refine z_aload_n hX rfl (by first | rfl | exact va_rf_r _) dX1_readsEdge_31 ?_
    refine z_bipush hX (by decide) dX1_readsEdge_32 ?_
    refine z_bipush hX (by decide) dX1_readsEdge_34 ?_
    refine z_calli (z_runV hX (m_one _ _ hD hT (by omega) (by omega)) (cwV 2 hX.ts (lw_V q1576 q1578 qs39 q71 q1579) rfl rfl rfl (by decide +kernel) (zroom (by decide) (by decide))) dX1_readsEdge_36 mM_0 (ci := 1) rfl rfl rfl rfl (by first | exact Nat.le_of_ble_eq_true rfl | simp [va_rf_c, Value.category]) (zhf (by omega) (by omega))) (fun r_36 μ_36 h_36 => ?_)
    obtain ⟨rfl, rfl⟩ := h_36
    refine z_bipush hX (by decide) dX1_readsEdge_39 ?_
    refine z_isub hX dX1_readsEdge_41 ?_
    refine zm_iastore hX hD 13 (by decide) (by decide) 112 rfl dX1_readsEdge_42 (by omega) ?_
    have T1 : ∀ F, mTxt (pW s (pOnS L Y q 97 104)) (zg A 13 F) L Y (eNd L Y q).2 := fun F => hT0 _ F v1
    refine z_aload_n hX rfl (by first | rfl | exact va_rf_r _) dX1_readsEdge_43 ?_
    refine zm_get hX 13 (by decide) q1383 dX1_readsEdge_44 rfl rfl ?_
    refine z_iload_n hX rfl dX1_readsEdge_47 ?_
    refine z_iconst hX dX1_readsEdge_48 ?_
    refine z_iadd hX dX1_readsEdge_49 ?_
    refine z_aload_n hX rfl (by first | rfl | exact va_rf_r _) dX1_readsEdge_50 ?_
    refine z_bipush hX (by decide) dX1_readsEdge_51 ?_
    refine z_bipush hX (by decide) dX1_readsEdge_53 ?_
    refine z_calli (z_runV hX (m_one _ _ hD (T1 _) (by omega) (by omega)) (cwV 2 hX.ts (lw_V q1576 q1578 qs39 q71 q1579) rfl rfl rfl (by decide +kernel) (zroom (by decide) (by decide))) dX1_readsEdge_55 mM_0 (ci := 1) rfl rfl rfl rfl (by first | exact Nat.le_of_ble_eq_true rfl | simp [va_rf_c, Value.category]) (zhf (by omega) (by omega))) (fun r_55 μ_55 h_55 => ?_)
    obtain ⟨rfl, rfl⟩ := h_55; rw [pW_pW]
    refine z_bipush hX (by decide) dX1_readsEdge_58 ?_
    refine z_isub hX dX1_readsEdge_60 ?_
    refine zm_iastore hX hD 13 (by decide) (by decide) 112 rfl dX1_readsEdge_61 (by omega) ?_
    rw [zg_zg, zg_s]
    have T2 : ∀ F, mTxt (pW s (pOnS L Y (eNd L Y q).2 97 104)) (zg A 13 F) L Y (eNd L Y (eNd L Y q).2).2 := fun F => hT0 _ F v2
    refine z_aload_n hX rfl (by first | rfl | exact va_rf_r _) dX1_readsEdge_62 ?_
    refine z_bipush hX (by decide) dX1_readsEdge_63 ?_
    refine z_callb (z_runV hX (m_takes _ _ hD (T2 _) (by omega)) (cwV 1 hX.ts (lw_V q1580 q1582 qs40 q71 q1583) rfl rfl rfl (by decide +kernel) (zroom (by decide) (by decide))) dX1_readsEdge_65 mM_0 (ci := 1) rfl rfl rfl rfl (by first | exact Nat.le_of_ble_eq_true rfl | simp [va_rf_c, Value.category]) (zhf (by omega) (by omega))) (fun r_65 μ_65 h_65 => ?_)
    obtain ⟨rfl, hb⟩ := h_65; rw [pW_pW]
    refine z_istore_n hX (lv' := [_, _, _, _, _, _]) (Nat.le_of_ble_eq_true rfl) (by first | exact zpre_0 | exact zpre_n rfl | exact zpre_1 rfl rfl | exact zpre_1 rfl (va_rf_c _)) rfl dX1_readsEdge_68 ?_
    subst hb
    refine z_aload_n hX rfl (by first | rfl | exact va_rf_r _) dX1_readsEdge_69 ?_
    refine z_iconst hX dX1_readsEdge_70 ?_
    refine z_bipush hX (by decide) dX1_readsEdge_71 ?_
    refine z_calli (z_runV hX (m_number _ _ hD (hT0 _ _ v3) (by omega) (by omega)) (cwV 2 hX.ts (lw_V q1584 q1586 qs41 q71 q1587) rfl rfl rfl (by decide +kernel) (zroom (by decide) (by decide))) dX1_readsEdge_73 mM_0 (ci := 1) rfl rfl rfl rfl (by first | exact Nat.le_of_ble_eq_true rfl | simp [va_rf_c, Value.category]) (zhf (by omega) (by omega))) (fun r_73 μ_73 h_73 => ?_)
    obtain ⟨rfl, hw⟩ := h_73; rw [pW_pW]
    refine z_istore_n hX (lv' := [_, _, _, _, _, _]) (Nat.le_of_ble_eq_true rfl) (by first | exact zpre_0 | exact zpre_n rfl | exact zpre_1 rfl rfl | exact zpre_1 rfl (va_rf_c _)) rfl dX1_readsEdge_76 ?_
    subst hw
    have n2 : 0 ≤ pNu L Y (pTkS L Y (eNd L Y (eNd L Y q).2).2 45) ∧ pNu L Y (pTkS L Y (eNd L Y (eNd L Y q).2).2 45) ≤ 99 := n1
    have dest : mM E ν m0 ad (zg (pW s (eMu L Y (eRt L Y (eSl L Y (eTm L Y (eWt L Y (eNd L Y (eNd L Y q).2).2).2).2).2).2 59)) 14 (s 14 + 1)) (zg A 13 (rdZ (A 13) (7 * s 14) (eNd L Y q).1 (eNd L Y (eNd L Y q).2).1 (eWt L Y (eNd L Y (eNd L Y q).2).2).1 (eTm L Y (eWt L Y (eNd L Y (eNd L Y q).2).2).2).1 (eSl L Y (eTm L Y (eWt L Y (eNd L Y (eNd L Y q).2).2).2).2).1 (eRt L Y (eSl L Y (eTm L Y (eWt L Y (eNd L Y (eNd L Y q).2).2).2).2).2).1.1 (eRt L Y (eSl L Y (eTm L Y (eWt L Y (eNd L Y (eNd L Y q).2).2).2).2).2).1.2)) = TG := by
      rw [← hTG]
      rfl
    by_cases hb : pTk L Y (eNd L Y (eNd L Y q).2).2 45 = true
    · have hw : (eWt L Y (eNd L Y (eNd L Y q).2).2).1 = - pNu L Y (pTkS L Y (eNd L Y (eNd L Y q).2).2 45) := if_pos hb
      rw [hw] at dest
      rw [hb]
      refine z_aload_n hX rfl (by first | rfl | exact va_rf_r _) dX1_readsEdge_77 ?_
      refine zm_get hX 13 (by decide) q1383 dX1_readsEdge_78 rfl rfl ?_
      refine z_iload_n hX rfl dX1_readsEdge_81 ?_
      refine z_iconst hX dX1_readsEdge_82 ?_
      refine z_iadd hX dX1_readsEdge_83 ?_
      refine z_iload_n hX rfl dX1_readsEdge_84 ?_
      refine z_if_eq_b hX dX1_readsEdge_85 (tgt := 93) rfl (fun h_85 => ?_) (fun h_85 => ?_)
      · exact absurd h_85 (by decide)
      · refine z_iload_n hX rfl dX1_readsEdge_88 ?_
        refine z_ineg hX dX1_readsEdge_89 ?_
        refine z_goto hX (tgt := 94) dX1_readsEdge_90 rfl ?_
        refine zm_iastore hX hD 13 (by decide) (by decide) 112 rfl dX1_readsEdge_94 (by omega) ?_
        rw [zg_zg, zg_s]
        exact time _ _ v4 hk' dest _ _ _ _
    · have hw : (eWt L Y (eNd L Y (eNd L Y q).2).2).1 = pNu L Y (pTkS L Y (eNd L Y (eNd L Y q).2).2 45) := if_neg hb
      rw [hw] at dest
      have hb' : pTk L Y (eNd L Y (eNd L Y q).2).2 45 = false := by simpa using hb
      rw [hb']
      refine z_aload_n hX rfl (by first | rfl | exact va_rf_r _) dX1_readsEdge_77 ?_
      refine zm_get hX 13 (by decide) q1383 dX1_readsEdge_78 rfl rfl ?_
      refine z_iload_n hX rfl dX1_readsEdge_81 ?_
      refine z_iconst hX dX1_readsEdge_82 ?_
      refine z_iadd hX dX1_readsEdge_83 ?_
      refine z_iload_n hX rfl dX1_readsEdge_84 ?_
      refine z_if_eq_b hX dX1_readsEdge_85 (tgt := 93) rfl (fun h_85 => ?_) (fun h_85 => ?_)
      · refine z_iload_n hX rfl dX1_readsEdge_93 ?_
        refine zm_iastore hX hD 13 (by decide) (by decide) 112 rfl dX1_readsEdge_94 (by omega) ?_
        rw [zg_zg, zg_s]
        exact time _ _ v4 hk' dest _ _ _ _
      · exact absurd h_85 (by decide)
  · refine z_aload_n hX rfl (by first | rfl | exact va_rf_r _) dX1_readsEdge_9 ?_
    refine z_aload_n hX rfl (by first | rfl | exact va_rf_r _) dX1_readsEdge_10 ?_
    refine zm_get hX 15 (by decide) q1385 dX1_readsEdge_11 rfl rfl ?_
    refine z_callv (z_runV hX (m_fails _ _ hD hT (by omega)) (cwV 1 hX.ts (lw_V q1572 q1574 qs38 q71 q1575) rfl rfl rfl (by decide +kernel) (zroom (by decide) (by decide))) dX1_readsEdge_14 mM_0 (ci := 1) rfl rfl rfl rfl (by first | exact Nat.le_of_ble_eq_true rfl | simp [va_rf_c, Value.category]) (zhf (by omega) (by omega))) (fun μ_14 h_14 => ?_)
    obtain rfl := h_14
    (try rw [← hQ])
    refine z_return hX dX1_readsEdge_17 (by omega) (by omega) ?_
    rw [if_pos h_6, h15]
