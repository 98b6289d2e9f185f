/-! MODEL 19: the reader of a text -/
set_option maxRecDepth 100000
def cAt (L : Int) (X : Int → Int) (p : Int) : Int := if p < L then X p else -1
def blF (L : Int) (X : Int → Int) : Nat → Int → Int
  | 0, p => p
  | k + 1, p => if cAt L X p = 32 then blF L X k (p + 1) else p
/-- behind the blanks -/
def blk (L : Int) (X : Int → Int) (p : Int) : Int := blF L X 151 p
abbrev pSt : Type := Int × Int
def pFa (q : pSt) (w : Int) : pSt := (q.1, if q.2 = -1000001 then w else q.2)
def pTk (L : Int) (X : Int → Int) (q : pSt) (c : Int) : Bool := decide (q.2 = -1000001 ∧ cAt L X q.1 = c)
def pTkS (L : Int) (X : Int → Int) (q : pSt) (c : Int) : pSt := if pTk L X q c = true then (blk L X (q.1 + 1), q.2) else q
def pOk (L : Int) (X : Int → Int) (q : pSt) (lo hi : Int) : Prop := q.2 = -1000001 ∧ lo ≤ cAt L X q.1 ∧ cAt L X q.1 ≤ hi
def pOn (L : Int) (X : Int → Int) (q : pSt) (lo hi : Int) : Int := if q.2 = -1000001 ∧ lo ≤ cAt L X q.1 ∧ cAt L X q.1 ≤ hi then cAt L X q.1 else lo
def pOnS (L : Int) (X : Int → Int) (q : pSt) (lo hi : Int) : pSt := if q.2 = -1000001 ∧ lo ≤ cAt L X q.1 ∧ cAt L X q.1 ≤ hi then (blk L X (q.1 + 1), q.2) else pFa q q.1
def dig (L : Int) (X : Int → Int) (p : Int) : Prop := 48 ≤ cAt L X p ∧ cAt L X p ≤ 57
/-- two digits at the most: the number and where it ends -/
def nuF (L : Int) (X : Int → Int) (p : Int) : Int × Int :=
  if 48 ≤ cAt L X p ∧ cAt L X p ≤ 57 then (if 48 ≤ cAt L X (p + 1) ∧ cAt L X (p + 1) ≤ 57 then (10 * (cAt L X p - 48) + cAt L X (p + 1) - 48, p + 2) else (cAt L X p - 48, p + 1)) else (0, p)
def pNuR (L : Int) (X : Int → Int) (q : pSt) : Int × Int := if q.2 = -1000001 then nuF L X q.1 else (0, q.1)
def pNu (L : Int) (X : Int → Int) (q : pSt) : Int := (pNuR L X q).1
def pNuA (q : pSt) (lo hi : Int) (r : Int × Int) : pSt := if r.2 = q.1 ∨ ¬ (lo ≤ r.1 ∧ r.1 ≤ hi) then pFa (r.2, q.2) q.1 else (r.2, q.2)
def pNuB (L : Int) (X : Int → Int) (q : pSt) : pSt := if 48 ≤ cAt L X q.1 ∧ cAt L X q.1 ≤ 57 then pFa q q.1 else q
def pBl (L : Int) (X : Int → Int) (q : pSt) : pSt := (blk L X q.1, q.2)
def pNuS (L : Int) (X : Int → Int) (q : pSt) (lo hi : Int) : pSt := pBl L X (pNuB L X (pNuA q lo hi (pNuR L X q)))
def tV (L : Int) (X : Int → Int) : Prop := (0 ≤ L ∧ L ≤ 150) ∧ ∀ j, 0 ≤ j → j < L → 0 ≤ X j ∧ X j ≤ 127
def qV (L : Int) (q : pSt) : Prop := (0 ≤ q.1 ∧ q.1 ≤ L) ∧ (q.2 = -1000001 ∨ 0 ≤ q.2 ∧ q.2 ≤ 150)
def pW (s : Nat → Int) (q : pSt) : Nat → Int := zg (zg s 15 q.1) 16 q.2
theorem pW_pW (s : Nat → Int) (q r : pSt) : pW (pW s q) r = pW s r := by
  funext k
  simp only [pW, zg]
  split
  · rfl
  · split <;> rfl
theorem pW_id {s : Nat → Int} {q : pSt} (h15 : s 15 = q.1) (h16 : s 16 = q.2) : pW s q = s := by
  funext k
  simp only [pW, zg]
  split
  · rename_i h; rw [h, h16]
  · split
    · rename_i h; rw [h, h15]
    · rfl
theorem pW_n {s : Nat → Int} {q : pSt} {k : Nat} (h1 : k ≠ 15) (h2 : k ≠ 16) : pW s q k = s k := by rw [pW, zg_n h2, zg_n h1]
theorem pW_zg {s : Nat → Int} {q : pSt} {k : Nat} {v : Int} (h1 : k ≠ 15) (h2 : k ≠ 16) : zg (pW s q) k v = pW (zg s k v) q := by
  funext j
  simp only [pW, zg]
  split
  · rename_i h; rw [if_neg (by omega), if_neg (by omega)]
  · split
    · rfl
    · split <;> rfl
theorem cAt_r {L : Int} {X : Int → Int} (h : tV L X) {p : Int} (h0 : 0 ≤ p) : -1 ≤ cAt L X p ∧ cAt L X p ≤ 127 := by
  unfold cAt
  split
  · have := h.2 p h0 (by assumption); omega
  · omega
theorem cAt_lt {L : Int} {X : Int → Int} {p : Int} (h : cAt L X p ≠ -1) : p < L := by
  unfold cAt at h
  split at h
  · assumption
  · exact absurd rfl h
theorem blF_r {L : Int} {X : Int → Int} : ∀ (k : Nat) {p : Int}, p ≤ L → p ≤ blF L X k p ∧ blF L X k p ≤ L
  | 0, p, h => ⟨Int.le_refl _, h⟩
  | k + 1, p, h => by
    rw [blF]
    split
    · rename_i hc
      have h1 := cAt_lt (L := L) (X := X) (p := p) (by omega)
      have h2 := blF_r (L := L) (X := X) k (p := p + 1) (by omega)
      omega
    · omega
theorem blk_r {L : Int} {X : Int → Int} {p : Int} (h : p ≤ L) : p ≤ blk L X p ∧ blk L X p ≤ L := blF_r 151 h
theorem pFa_v {L : Int} {q : pSt} (h : qV L q) {w : Int} (hw : 0 ≤ w ∧ w ≤ 150) : qV L (pFa q w) := by
  refine ⟨h.1, ?_⟩
  rw [pFa]
  split
  · exact Or.inr hw
  · exact h.2
theorem pTkS_v {L : Int} {X : Int → Int} {q : pSt} {c : Int} (h : qV L q) (hc : 0 ≤ c) : qV L (pTkS L X q c) := by
  unfold pTkS
  split
  · rename_i hp
    have hp' : q.2 = -1000001 ∧ cAt L X q.1 = c := by simpa [pTk] using hp
    have h1 := cAt_lt (L := L) (X := X) (p := q.1) (by omega)
    have h2 := blk_r (L := L) (X := X) (p := q.1 + 1) (by omega)
    have h3 := h.1
    exact ⟨by simp only; omega, h.2⟩
  · exact h
theorem pOnS_v {L : Int} {X : Int → Int} {q : pSt} {lo hi : Int} (hL : L ≤ 150) (h : qV L q) (hc : 0 ≤ lo) : qV L (pOnS L X q lo hi) := by
  have h3 := h.1
  unfold pOnS
  split
  · rename_i hp
    have h1 := cAt_lt (L := L) (X := X) (p := q.1) (by omega)
    have h2 := blk_r (L := L) (X := X) (p := q.1 + 1) (by omega)
    exact ⟨by simp only; omega, h.2⟩
  · exact pFa_v h (by omega)
theorem nuF_r {L : Int} {X : Int → Int} {p : Int} (hp : p ≤ L) : (0 ≤ (nuF L X p).1 ∧ (nuF L X p).1 ≤ 99) ∧ p ≤ (nuF L X p).2 ∧ (nuF L X p).2 ≤ L := by
  unfold nuF
  split
  · rename_i h
    have h1 := cAt_lt (L := L) (X := X) (p := p) (by omega)
    split
    · rename_i h2
      have h3 := cAt_lt (L := L) (X := X) (p := p + 1) (by omega)
      simp only; omega
    · simp only; omega
  · simp only; omega
theorem pNuR_r {L : Int} {X : Int → Int} {q : pSt} (h : qV L q) : (0 ≤ (pNuR L X q).1 ∧ (pNuR L X q).1 ≤ 99) ∧ q.1 ≤ (pNuR L X q).2 ∧ (pNuR L X q).2 ≤ L := by
  have h1 := h.1
  unfold pNuR
  split
  · exact nuF_r h1.2
  · simp only; omega
theorem pNuA_v {L : Int} {q : pSt} {lo hi : Int} {r : Int × Int} (hL : L ≤ 150) (h : qV L q) (hr : q.1 ≤ r.2 ∧ r.2 ≤ L) : qV L (pNuA q lo hi r) := by
  have h1 := h.1
  have h2 : qV L (r.2, q.2) := ⟨by simp only; omega, h.2⟩
  unfold pNuA
  split
  · exact pFa_v h2 (by omega)
  · exact h2
theorem pNuB_v {L : Int} {X : Int → Int} {q : pSt} (hL : L ≤ 150) (h : qV L q) : qV L (pNuB L X q) := by
  have h1 := h.1
  unfold pNuB
  split
  · exact pFa_v h (by omega)
  · exact h
theorem pBl_v {L : Int} {X : Int → Int} {q : pSt} (h : qV L q) : qV L (pBl L X q) := by
  have h1 := h.1
  have h2 := blk_r (L := L) (X := X) (p := q.1) (by omega)
  exact ⟨by simp only [pBl]; omega, h.2⟩
theorem pNuS_v {L : Int} {X : Int → Int} {q : pSt} {lo hi : Int} (hL : L ≤ 150) (h : qV L q) : qV L (pNuS L X q lo hi) :=
  pBl_v (pNuB_v hL (pNuA_v hL h (pNuR_r h).2))
theorem m_next (l : Launch) (E : zE) {ν : zM} {m0 : Nat} {ad : Nat → Nat} {s : Nat → Int} {A : Nat → Int → Int} (hD : mD m0 ad) {L : Int} {Y : Int → Int} {p : Int} (h5 : s 5 = L) (h4 : A 4 = Y) (h15 : s 15 = p) (ht : tV L Y) (hp : 0 ≤ p ∧ p ≤ L) : Met l yX1_next (ws_ yX1_next cX1_next 1 (some .int)) (zR 0 0 0) (va_Pc [.ref m0] (zPre E (mM E ν m0 ad s A))) (zQi E (fun r μ' => mM E ν m0 ad s A = μ' ∧ cAt L Y p = r)) 0 0 (zA E) := by
  subst h5 h4 h15
  have hL := ht.1
  refine zmet (cc := cX1_next) [_] (by decide) (Nat.le_of_ble_eq_true rfl) rfl rfl ?_
  intro X hl hX hinit; subst hl
  have hX : zOK X _ cX1_next RX1 (some .int) 1 := hX
  generalize hQ : MQ _ _ _ _ _ _ _ = Q
  refine z_aload_n hX rfl (by first | rfl | exact va_rf_r _) dX1_next_0 ?_
  refine zm_get hX 15 (by decide) q1385 dX1_next_1 rfl rfl ?_
  refine z_aload_n hX rfl (by first | rfl | exact va_rf_r _) dX1_next_4 ?_
  refine zm_get hX 5 (by decide) q1375 dX1_next_5 rfl rfl ?_
  refine z_icmp_ge hX (by omega) (by omega) dX1_next_8 (tgt := 23) rfl (fun h_8 => ?_) (fun h_8 => ?_)
  · refine z_iconst hX dX1_next_23 ?_
    (try rw [← hQ])
    refine z_ireturn hX dX1_next_24 (by omega) (by omega) ?_
    exact ⟨rfl, by rw [cAt, if_neg (by omega)]⟩
  · refine z_aload_n hX rfl (by first | rfl | exact va_rf_r _) dX1_next_11 ?_
    refine zm_get hX 4 (by decide) q1374 dX1_next_12 rfl rfl ?_
    refine z_aload_n hX rfl (by first | rfl | exact va_rf_r _) dX1_next_15 ?_
    refine zm_get hX 15 (by decide) q1385 dX1_next_16 rfl rfl ?_
    refine zm_iaload hX hD 4 (by decide) (by decide) 150 rfl dX1_next_19 (by omega) ?_
    refine z_goto hX (tgt := 24) dX1_next_20 rfl ?_
    (try rw [← hQ])
    refine z_ireturn hX dX1_next_24 (by omega) (by omega) ?_
    exact ⟨rfl, by rw [cAt, if_pos (by omega)]⟩
theorem m_blanks (l : Launch) (E : zE) {ν : zM} {m0 : Nat} {ad : Nat → Nat} {s : Nat → Int} {A : Nat → Int → Int} (hD : mD m0 ad) {L : Int} {Y : Int → Int} {q : pSt} (h5 : s 5 = L) (h4 : A 4 = Y) (h15 : s 15 = q.1) (h16 : s 16 = q.2) (ht : tV L Y) (hq : qV L q) : Met l yX1_blanks (ws_ yX1_blanks cX1_blanks 1 none) (zR 1 0 0) (va_Pc [.ref m0] (zPre E (mM E ν m0 ad s A))) (zQv E (fun μ' => mM E ν m0 ad (pW s (pBl L Y q)) A = μ')) 0 0 (zA E) := by
  have hL := ht.1
  have hq1 := hq.1
  refine zmet (cc := cX1_blanks) [_] (by decide) (Nat.le_of_ble_eq_true rfl) rfl rfl ?_
  intro X hl hX hinit; subst hl
  have hX : zOK X _ cX1_blanks RX1 none 1 := hX
  generalize hQ : MQ _ _ _ _ _ _ _ = Q
  have loop : ∀ (k : Nat) (p : Int), 0 ≤ p → p ≤ L → L < p + k → blF L Y k p = blk L Y q.1 → zW X (zR 1 0 0) E (mM E ν m0 ad (pW s (p, q.2)) A) 0 0 Q 0 [some (.ref m0)] [] := by
    intro k
    induction k with
    | zero => intros; exfalso; omega
    | succ k ih =>
      intro p h0 h1 hk he
      rw [blF] at he
      have hcr := cAt_r ht h0
      refine z_aload_n hX rfl (by first | rfl | exact va_rf_r _) dX1_blanks_0 ?_
      refine z_calli (z_runV hX (m_next _ _ hD (p := p) ((pW_n (by decide) (by decide)).trans h5) h4 rfl ht (by omega)) (cwV 0 hX.ts (lw_V q1564 q1566 qs36 q71 q1567) rfl rfl rfl (by decide +kernel) (zroom (by decide) (by decide))) dX1_blanks_1 mM_0 (ci := 1) rfl rfl rfl rfl (by first | exact Nat.le_of_ble_eq_true rfl | simp [va_rf_c, Value.category]) (zhf (by omega) (by omega))) (fun r_1 μ_1 h_1 => ?_)
      obtain ⟨rfl, rfl⟩ := h_1
      refine z_bipush hX (by decide) dX1_blanks_4 ?_
      refine z_icmp_ne hX (by omega) (by omega) dX1_blanks_6 (tgt := 22) rfl (fun h_6 => ?_) (fun h_6 => ?_)
      · rw [if_neg h_6] at he
        (try rw [← hQ])
        refine z_return hX dX1_blanks_22 (by omega) (by omega) ?_
        rw [pBl, ← he]
      · rw [if_pos h_6] at he
        have h2 := cAt_lt (L := L) (X := Y) (p := p) (by omega)
        have e15 : pW s (p, q.2) 15 = p := rfl
        refine z_aload_n hX rfl (by first | rfl | exact va_rf_r _) dX1_blanks_9 ?_
        refine z_dup hX (by first | rfl | exact va_rf_c _) dX1_blanks_10 ?_
        refine zm_get hX 15 (by decide) q1385 dX1_blanks_11 rfl rfl ?_
        refine z_iconst hX dX1_blanks_14 ?_
        refine z_iadd hX dX1_blanks_15 ?_
        refine zm_puti hX hD 15 (by decide) q1385 dX1_blanks_16 rfl mset_15 ?_
        refine z_goto hX (tgt := 0) dX1_blanks_19 rfl ?_
        have h := ih (p + 1) (by omega) (by omega) (by omega) he
        have e : zg (pW s (p, q.2)) 15 (pW s (p, q.2) 15 + 1) = pW s (p + 1, q.2) := by
          funext j
          simp only [e15]
          simp only [pW, zg]
          split
          · rename_i h; rw [h]; rfl
          · rfl
        rw [e]
        exact h
  have h := loop 151 q.1 (by omega) (by omega) (by omega) rfl
  rw [show (q.1, q.2) = q from rfl, pW_id h15 h16] at h
  exact h
theorem pW_15 {s : Nat → Int} {q : pSt} : zg (pW s q) 15 (pW s q 15 + 1) = pW s (q.1 + 1, q.2) := by
  funext j
  simp only [show pW s q 15 = q.1 from rfl]
  simp only [pW, zg]
  split
  · rename_i h; rw [h]; rfl
  · rfl
theorem s_15 {s : Nat → Int} {q : pSt} {v : Int} (h15 : s 15 = q.1) (h16 : s 16 = q.2) : zg s 15 v = pW s (v, q.2) := by
  funext j
  simp only [pW, zg]
  split
  · rename_i h; rw [h]; rfl
  · split
    · rename_i h2 h; rw [h, h16]
    · rfl
theorem s_16 {s : Nat → Int} {q : pSt} {v : Int} (h15 : s 15 = q.1) : zg s 16 v = pW s (q.1, v) := by
  funext j
  simp only [pW, zg]
  split
  · rfl
  · split
    · rename_i h2 h; rw [h, h15]
    · rfl
abbrev mTxt (s : Nat → Int) (A : Nat → Int → Int) (L : Int) (Y : Int → Int) (q : pSt) : Prop := (s 5 = L ∧ A 4 = Y ∧ s 15 = q.1 ∧ s 16 = q.2) ∧ tV L Y ∧ qV L q
theorem mTxt_w {s : Nat → Int} {A : Nat → Int → Int} {L : Int} {Y : Int → Int} {q r : pSt} (h : mTxt s A L Y q) (hr : qV L r) : mTxt (pW s r) A L Y r := ⟨⟨(pW_n (by decide) (by decide)).trans h.1.1, h.1.2.1, rfl, rfl⟩, h.2.1, hr⟩
theorem m_fails (l : Launch) (E : zE) {ν : zM} {m0 : Nat} {ad : Nat → Nat} {s : Nat → Int} {A : Nat → Int → Int} (hD : mD m0 ad) {L : Int} {Y : Int → Int} {q : pSt} (h : mTxt s A L Y q) {w : Int} (hw : iR w) : Met l yX1_fails (ws_ yX1_fails cX1_fails 2 none) (zR 0 0 0) (va_Pc [.ref m0, .int (zI w)] (zPre E (mM E ν m0 ad s A))) (zQv E (fun μ' => mM E ν m0 ad (pW s (pFa q w)) A = μ')) 0 0 (zA E) := by
  obtain ⟨⟨h5, h4, h15, h16⟩, ht, hq⟩ := h
  have hL := ht.1
  have hq2 := hq.2
  refine zmet (cc := cX1_fails) [_, _] (by decide) (Nat.le_of_ble_eq_true rfl) rfl rfl ?_
  intro X hl hX hinit; subst hl
  have hX : zOK X _ cX1_fails RX1 none 2 := hX
  generalize hQ : MQ _ _ _ _ _ _ _ = Q
  refine z_aload_n hX rfl (by first | rfl | exact va_rf_r _) dX1_fails_0 ?_
  refine z_aload_n hX rfl (by first | rfl | exact va_rf_r _) dX1_fails_1 ?_
  refine zm_get hX 16 (by decide) q1386 dX1_fails_2 rfl rfl ?_
  refine z_ldc hX (z := -1000001) q1369 (by decide) dX1_fails_5 ?_
  refine z_icmp_ne hX (by omega) (by omega) dX1_fails_7 (tgt := 14) rfl (fun h_7 => ?_) (fun h_7 => ?_)
  · refine z_aload_n hX rfl (by first | rfl | exact va_rf_r _) dX1_fails_14 ?_
    refine zm_get hX 16 (by decide) q1386 dX1_fails_15 rfl rfl ?_
    refine zm_puti hX hD 16 (by decide) q1386 dX1_fails_18 rfl mset_16 ?_
    (try rw [← hQ])
    refine z_return hX dX1_fails_21 (by omega) (by omega) ?_
    rw [s_16 h15, pFa, if_neg (by rw [← h16]; exact h_7), ← h16]
  · refine z_iload_n hX rfl dX1_fails_10 ?_
    refine z_goto hX (tgt := 18) dX1_fails_11 rfl ?_
    refine zm_puti hX hD 16 (by decide) q1386 dX1_fails_18 rfl mset_16 ?_
    (try rw [← hQ])
    refine z_return hX dX1_fails_21 (by omega) (by omega) ?_
    rw [s_16 h15, pFa, if_pos (by rw [← h16]; exact h_7)]
theorem m_takes (l : Launch) (E : zE) {ν : zM} {m0 : Nat} {ad : Nat → Nat} {s : Nat → Int} {A : Nat → Int → Int} (hD : mD m0 ad) {L : Int} {Y : Int → Int} {q : pSt} (h : mTxt s A L Y q) {c : Int} (hc : 0 ≤ c ∧ c ≤ 127) : Met l yX1_takes (ws_ yX1_takes cX1_takes 3 (some .boolean)) (zR 2 0 0) (va_Pc [.ref m0, .int (zI c)] (zPre E (mM E ν m0 ad s A))) (zQb E (fun r μ' => mM E ν m0 ad (pW s (pTkS L Y q c)) A = μ' ∧ pTk L Y q c = r)) 0 0 (zA E) := by
  have hT := h
  obtain ⟨⟨h5, h4, h15, h16⟩, ht, hq⟩ := h
  have hL := ht.1
  have hq1 := hq.1
  have hq2 := hq.2
  have hcr := cAt_r ht hq1.1
  refine zmet (cc := cX1_takes) [_, _, _] (by decide) (Nat.le_of_ble_eq_true rfl) rfl rfl ?_
  intro X hl hX hinit; subst hl
  have hX : zOK X _ cX1_takes RX1 (some .boolean) 3 := hX
  generalize hQ : MQ _ _ _ _ _ _ _ = Q
  have no : pTk L Y q c = false → zW X (zR 2 0 0) E (mM E ν m0 ad s A) 0 0 Q 21 [some (.ref m0), some (.int (zI c)), none] [] := by
    intro hn
    refine z_iconst hX dX1_takes_21 ?_
    refine z_istore_n hX (lv' := [_, _, _]) (Nat.le_of_ble_eq_true rfl) (by first | exact zpre_0 | exact zpre_n rfl | exact zpre_1 rfl rfl | exact zpre_1 rfl (va_rf_c _)) rfl dX1_takes_22 ?_
    refine z_iload_n hX rfl dX1_takes_23 ?_
    refine z_if_eq hX (by omega) dX1_takes_24 (tgt := 41) rfl (fun h_24 => ?_) (fun h_24 => ?_)
    · refine z_iload_n hX rfl dX1_takes_41 ?_
      (try rw [← hQ])
      first | refine z_breturn hX true dX1_takes_42 (by omega) (by omega) ?_ | refine z_breturn hX false dX1_takes_42 (by omega) (by omega) ?_ | refine z_breturn hX _ dX1_takes_42 (by omega) (by omega) ?_
      exact ⟨by rw [pTkS, hn, if_neg (by decide), pW_id h15 h16], hn⟩
    · exact absurd rfl h_24
  refine z_aload_n hX rfl (by first | rfl | exact va_rf_r _) dX1_takes_0 ?_
  refine zm_get hX 16 (by decide) q1386 dX1_takes_1 rfl rfl ?_
  refine z_ldc hX (z := -1000001) q1369 (by decide) dX1_takes_4 ?_
  refine z_icmp_ne hX (by omega) (by omega) dX1_takes_6 (tgt := 21) rfl (fun h_6 => ?_) (fun h_6 => ?_)
  · exact no (by rw [pTk]; exact decide_eq_false (fun hh => h_6 (h16.trans hh.1)))
  · refine z_aload_n hX rfl (by first | rfl | exact va_rf_r _) dX1_takes_9 ?_
    refine z_calli (z_runV hX (m_next _ _ hD h5 h4 h15 ht hq1) (cwV 0 hX.ts (lw_V q1564 q1566 qs36 q71 q1567) rfl rfl rfl (by decide +kernel) (zroom (by decide) (by decide))) dX1_takes_10 mM_0 (ci := 1) rfl rfl rfl rfl (by first | exact Nat.le_of_ble_eq_true rfl | simp [va_rf_c, Value.category]) (zhf (by omega) (by omega))) (fun r_10 μ_10 h_10 => ?_)
    obtain ⟨rfl, rfl⟩ := h_10
    refine z_iload_n hX rfl dX1_takes_13 ?_
    refine z_icmp_ne hX (by omega) (by omega) dX1_takes_14 (tgt := 21) rfl (fun h_14 => ?_) (fun h_14 => ?_)
    · exact no (by rw [pTk]; exact decide_eq_false (fun hh => h_14 hh.2))
    · have hy : pTk L Y q c = true := by rw [pTk]; exact decide_eq_true ⟨by rw [← h16]; exact h_6, h_14⟩
      have hlt := cAt_lt (L := L) (X := Y) (p := q.1) (by omega)
      have hv : qV L (q.1 + 1, q.2) := ⟨by simp only; omega, hq2⟩
      refine z_iconst hX dX1_takes_17 ?_
      refine z_goto hX (tgt := 22) dX1_takes_18 rfl ?_
      refine z_istore_n hX (lv' := [_, _, _]) (Nat.le_of_ble_eq_true rfl) (by first | exact zpre_0 | exact zpre_n rfl | exact zpre_1 rfl rfl | exact zpre_1 rfl (va_rf_c _)) rfl dX1_takes_22 ?_
      refine z_iload_n hX rfl dX1_takes_23 ?_
      refine z_if_eq hX (by omega) dX1_takes_24 (tgt := 41) rfl (fun h_24 => ?_) (fun h_24 => ?_)
      · exact absurd h_24 (by decide)
      · refine z_aload_n hX rfl (by first | rfl | exact va_rf_r _) dX1_takes_27 ?_
        refine z_dup hX (by first | rfl | exact va_rf_c _) dX1_takes_28 ?_
        refine zm_get hX 15 (by decide) q1385 dX1_takes_29 rfl rfl ?_
        refine z_iconst hX dX1_takes_32 ?_
        refine z_iadd hX dX1_takes_33 ?_
        refine zm_puti hX hD 15 (by decide) q1385 dX1_takes_34 rfl mset_15 ?_
        rw [s_15 h15 h16, h15]
        refine z_aload_n hX rfl (by first | rfl | exact va_rf_r _) dX1_takes_37 ?_
        refine z_callv (z_runV hX (m_blanks _ _ hD (q := (q.1 + 1, q.2)) ((pW_n (by decide) (by decide)).trans h5) h4 rfl rfl ht hv) (cwV 0 hX.ts (lw_V q1560 q1562 qs35 q71 q1563) rfl rfl rfl (by decide +kernel) (zroom (by decide) (by decide))) dX1_takes_38 mM_0 (ci := 1) rfl rfl rfl rfl (by first | exact Nat.le_of_ble_eq_true rfl | simp [va_rf_c, Value.category]) (zhf (by omega) (by omega))) (fun μ_38 h_38 => ?_)
        obtain rfl := h_38
        refine z_iload_n hX rfl dX1_takes_41 ?_
        (try rw [← hQ])
        first | refine z_breturn hX true dX1_takes_42 (by omega) (by omega) ?_ | refine z_breturn hX false dX1_takes_42 (by omega) (by omega) ?_ | refine z_breturn hX _ dX1_takes_42 (by omega) (by omega) ?_
        exact ⟨by rw [pW_pW, pTkS, hy, if_pos rfl]; rfl, hy⟩
theorem m_one (l : Launch) (E : zE) {ν : zM} {m0 : Nat} {ad : Nat → Nat} {s : Nat → Int} {A : Nat → Int → Int} (hD : mD m0 ad) {L : Int} {Y : Int → Int} {q : pSt} (h : mTxt s A L Y q) {lo hi : Int} (hc : 0 ≤ lo ∧ lo ≤ 127) (hc2 : 0 ≤ hi ∧ hi ≤ 127) : Met l yX1_one (ws_ yX1_one cX1_one 4 (some .int)) (zR 2 0 0) (va_Pc [.ref m0, .int (zI lo), .int (zI hi)] (zPre E (mM E ν m0 ad s A))) (zQi E (fun r μ' => mM E ν m0 ad (pW s (pOnS L Y q lo hi)) A = μ' ∧ pOn L Y q lo hi = r)) 0 0 (zA E) := by
  have hT := h
  obtain ⟨⟨h5, h4, h15, h16⟩, ht, hq⟩ := h
  have hL := ht.1
  have hq1 := hq.1
  have hq2 := hq.2
  have hcr := cAt_r ht hq1.1
  refine zmet (cc := cX1_one) [_, _, _, _] (by decide) (Nat.le_of_ble_eq_true rfl) rfl rfl ?_
  intro X hl hX hinit; subst hl
  have hX : zOK X _ cX1_one RX1 (some .int) 4 := hX
  generalize hQ : MQ _ _ _ _ _ _ _ = Q
  have no : ¬ (q.2 = -1000001 ∧ lo ≤ cAt L Y q.1 ∧ cAt L Y q.1 ≤ hi) → zW X (zR 2 0 0) E (mM E ν m0 ad s A) 0 0 Q 42 [some (.ref m0), some (.int (zI lo)), some (.int (zI hi)), some (.int (zI (cAt L Y q.1)))] [] := by
    intro hn
    refine z_aload_n hX rfl (by first | rfl | exact va_rf_r _) dX1_one_42 ?_
    refine z_aload_n hX rfl (by first | rfl | exact va_rf_r _) dX1_one_43 ?_
    refine zm_get hX 15 (by decide) q1385 dX1_one_44 rfl rfl ?_
    refine z_callv (z_runV hX (m_fails _ _ hD hT (by omega)) (cwV 1 hX.ts (lw_V q1572 q1574 qs38 q71 q1575) rfl rfl rfl (by decide +kernel) (zroom (by decide) (by decide))) dX1_one_47 mM_0 (ci := 1) rfl rfl rfl rfl (by first | exact Nat.le_of_ble_eq_true rfl | simp [va_rf_c, Value.category]) (zhf (by omega) (by omega))) (fun μ_47 h_47 => ?_)
    obtain rfl := h_47
    refine z_iload_n hX rfl dX1_one_50 ?_
    (try rw [← hQ])
    refine z_ireturn hX dX1_one_51 (by omega) (by omega) ?_
    exact ⟨by rw [pOnS, if_neg hn, h15], by rw [pOn, if_neg hn]⟩
  refine z_aload_n hX rfl (by first | rfl | exact va_rf_r _) dX1_one_0 ?_
  refine z_calli (z_runV hX (m_next _ _ hD h5 h4 h15 ht hq1) (cwV 0 hX.ts (lw_V q1564 q1566 qs36 q71 q1567) rfl rfl rfl (by decide +kernel) (zroom (by decide) (by decide))) dX1_one_1 mM_0 (ci := 1) rfl rfl rfl rfl (by first | exact Nat.le_of_ble_eq_true rfl | simp [va_rf_c, Value.category]) (zhf (by omega) (by omega))) (fun r_1 μ_1 h_1 => ?_)
  obtain ⟨rfl, rfl⟩ := h_1
  refine z_istore_n hX (lv' := [_, _, _, _]) (Nat.le_of_ble_eq_true rfl) (by first | exact zpre_0 | exact zpre_n rfl | exact zpre_1 rfl rfl | exact zpre_1 rfl (va_rf_c _)) rfl dX1_one_4 ?_
  refine z_aload_n hX rfl (by first | rfl | exact va_rf_r _) dX1_one_5 ?_
  refine zm_get hX 16 (by decide) q1386 dX1_one_6 rfl rfl ?_
  refine z_ldc hX (z := -1000001) q1369 (by decide) dX1_one_9 ?_
  refine z_icmp_ne hX (by omega) (by omega) dX1_one_11 (tgt := 42) rfl (fun h_11 => ?_) (fun h_11 => ?_)
  · exact no (fun hh => h_11 (h16.trans hh.1))
  · refine z_iload_n hX rfl dX1_one_14 ?_
    refine z_i2l hX (by omega) dX1_one_15 ?_
    refine z_iload_n hX rfl dX1_one_16 ?_
    refine z_i2l hX (by omega) dX1_one_17 ?_
    refine z_iload_n hX rfl dX1_one_18 ?_
    refine z_i2l hX (by omega) dX1_one_19 ?_
    refine z_callb (z_runS hX (m_in _ _ _ (by omega) (by omega) (by omega)) (va_cwS 3 hX.ts (lw_S q1501 q1502 q71 q1503) rfl rfl rfl (by decide +kernel) (zroom (by decide) (by decide))) dX1_one_20 rfl rfl rfl (by first | exact Nat.le_of_ble_eq_true rfl | simp [va_rf_c, Value.category]) (zhf (by omega) (by omega))) (fun r_20 μ_20 h_20 => ?_)
    obtain ⟨rfl, rfl⟩ := h_20
    refine z_if_eq_b hX dX1_one_23 (tgt := 42) rfl (fun h_23 => ?_) (fun h_23 => ?_)
    · exact no (fun hh => of_decide_eq_false h_23 hh.2)
    · have hok : q.2 = -1000001 ∧ lo ≤ cAt L Y q.1 ∧ cAt L Y q.1 ≤ hi := ⟨h16.symm.trans h_11, of_decide_eq_true h_23⟩
      have hlt := cAt_lt (L := L) (X := Y) (p := q.1) (by omega)
      have hv : qV L (q.1 + 1, q.2) := ⟨by simp only; omega, hq2⟩
      refine z_aload_n hX rfl (by first | rfl | exact va_rf_r _) dX1_one_26 ?_
      refine z_dup hX (by first | rfl | exact va_rf_c _) dX1_one_27 ?_
      refine zm_get hX 15 (by decide) q1385 dX1_one_28 rfl rfl ?_
      refine z_iconst hX dX1_one_31 ?_
      refine z_iadd hX dX1_one_32 ?_
      refine zm_puti hX hD 15 (by decide) q1385 dX1_one_33 rfl mset_15 ?_
      rw [s_15 h15 h16, h15]
      refine z_aload_n hX rfl (by first | rfl | exact va_rf_r _) dX1_one_36 ?_
      refine z_callv (z_runV hX (m_blanks _ _ hD (q := (q.1 + 1, q.2)) ((pW_n (by decide) (by decide)).trans h5) h4 rfl rfl ht hv) (cwV 0 hX.ts (lw_V q1560 q1562 qs35 q71 q1563) rfl rfl rfl (by decide +kernel) (zroom (by decide) (by decide))) dX1_one_37 mM_0 (ci := 1) rfl rfl rfl rfl (by first | exact Nat.le_of_ble_eq_true rfl | simp [va_rf_c, Value.category]) (zhf (by omega) (by omega))) (fun μ_37 h_37 => ?_)
      obtain rfl := h_37
      refine z_iload_n hX rfl dX1_one_40 ?_
      (try rw [← hQ])
      refine z_ireturn hX dX1_one_41 (by omega) (by omega) ?_
      exact ⟨by rw [pW_pW, pOnS, if_pos hok]; rfl, by rw [pOn, if_pos hok]⟩
theorem m_number (l : Launch) (E : zE) {ν : zM} {m0 : Nat} {ad : Nat → Nat} {s : Nat → Int} {A : Nat → Int → Int} (hD : mD m0 ad) {L : Int} {Y : Int → Int} {q : pSt} (h : mTxt s A L Y q) {lo hi : Int} (hc : 0 ≤ lo ∧ lo ≤ 127) (hc2 : 0 ≤ hi ∧ hi ≤ 127) : Met l yX1_number (ws_ yX1_number cX1_number 5 (some .int)) (zR 2 0 0) (va_Pc [.ref m0, .int (zI lo), .int (zI hi)] (zPre E (mM E ν m0 ad s A))) (zQi E (fun r μ' => mM E ν m0 ad (pW s (pNuS L Y q lo hi)) A = μ' ∧ pNu L Y q = r)) 0 0 (zA E) := by
  have hT := h
  obtain ⟨⟨h5, h4, h15, h16⟩, ht, hq⟩ := h
  have hL := ht.1
  have hq1 := hq.1
  have hq2 := hq.2
  have hr := pNuR_r (X := Y) hq
  refine zmet (cc := cX1_number) [_, _, _, _, _] (by decide) (Nat.le_of_ble_eq_true rfl) rfl rfl ?_
  intro X hl hX hinit; subst hl
  have hX : zOK X _ cX1_number RX1 (some .int) 5 := hX
  generalize hQ : MQ _ _ _ _ _ _ _ = Q
  have fin : ∀ (p v : Int), pNuR L Y q = (v, p) → zW X (zR 2 0 0) E (mM E ν m0 ad (pW s (p, q.2)) A) 0 0 Q 72 [some (.ref m0), some (.int (zI lo)), some (.int (zI hi)), some (.int (zI q.1)), some (.int (zI v))] [] := by
    intro p v he
    rw [he] at hr
    obtain ⟨r1, r2⟩ := hr
    simp only at r1 r2
    have hpv : qV L (p, q.2) := ⟨by simp only; omega, hq2⟩
    have hTp := mTxt_w hT hpv
    have hpNu : pNu L Y q = v := by rw [pNu, he]
    have fin3 : ∀ q3 : pSt, qV L q3 → pBl L Y q3 = pNuS L Y q lo hi → zW X (zR 2 0 0) E (mM E ν m0 ad (pW s q3) A) 0 0 Q 123 [some (.ref m0), some (.int (zI lo)), some (.int (zI hi)), some (.int (zI q.1)), some (.int (zI v))] [] := by
      intro q3 hv3 he3
      have hT3 := mTxt_w hT hv3
      refine z_aload_n hX rfl (by first | rfl | exact va_rf_r _) dX1_number_123 ?_
      refine z_callv (z_runV hX (m_blanks _ _ hD hT3.1.1 hT3.1.2.1 hT3.1.2.2.1 hT3.1.2.2.2 ht hv3) (cwV 0 hX.ts (lw_V q1560 q1562 qs35 q71 q1563) rfl rfl rfl (by decide +kernel) (zroom (by decide) (by decide))) dX1_number_124 mM_0 (ci := 1) rfl rfl rfl rfl (by first | exact Nat.le_of_ble_eq_true rfl | simp [va_rf_c, Value.category]) (zhf (by omega) (by omega))) (fun μ_124 h_124 => ?_)
      obtain rfl := h_124
      refine z_iload hX rfl dX1_number_127 ?_
      (try rw [← hQ])
      refine z_ireturn hX dX1_number_129 (by omega) (by omega) ?_
      exact ⟨by rw [pW_pW, he3], hpNu⟩
    have fin2 : ∀ q2 : pSt, qV L q2 → pBl L Y (pNuB L Y q2) = pNuS L Y q lo hi → zW X (zR 2 0 0) E (mM E ν m0 ad (pW s q2) A) 0 0 Q 98 [some (.ref m0), some (.int (zI lo)), some (.int (zI hi)), some (.int (zI q.1)), some (.int (zI v))] [] := by
      intro q2 hv2 he2
      have hT2 := mTxt_w hT hv2
      have hcr := cAt_r ht hv2.1.1
      have hq21 := hv2.1
      refine z_aload_n hX rfl (by first | rfl | exact va_rf_r _) dX1_number_98 ?_
      refine z_calli (z_runV hX (m_next _ _ hD hT2.1.1 hT2.1.2.1 hT2.1.2.2.1 ht hv2.1) (cwV 0 hX.ts (lw_V q1564 q1566 qs36 q71 q1567) rfl rfl rfl (by decide +kernel) (zroom (by decide) (by decide))) dX1_number_99 mM_0 (ci := 1) rfl rfl rfl rfl (by first | exact Nat.le_of_ble_eq_true rfl | simp [va_rf_c, Value.category]) (zhf (by omega) (by omega))) (fun r_99 μ_99 h_99 => ?_)
      obtain ⟨rfl, rfl⟩ := h_99
      refine z_i2l hX (by omega) dX1_number_102 ?_
      refine z_ldc2_w hX (z := 48) q1588 (by decide) dX1_number_103 ?_
      refine z_ldc2_w hX (z := 57) q1589 (by decide) dX1_number_106 ?_
      refine z_callb (z_runS hX (m_in _ _ _ (by omega) (by omega) (by omega)) (va_cwS 3 hX.ts (lw_S q1501 q1502 q71 q1503) rfl rfl rfl (by decide +kernel) (zroom (by decide) (by decide))) dX1_number_109 rfl rfl rfl (by first | exact Nat.le_of_ble_eq_true rfl | simp [va_rf_c, Value.category]) (zhf (by omega) (by omega))) (fun r_109 μ_109 h_109 => ?_)
      obtain ⟨rfl, rfl⟩ := h_109
      refine z_if_eq_b hX dX1_number_112 (tgt := 123) rfl (fun h_112 => ?_) (fun h_112 => ?_)
      · refine fin3 q2 hv2 ?_
        rw [pNuB, if_neg (of_decide_eq_false h_112)] at he2
        exact he2
      · have e15 : pW s q2 15 = q2.1 := rfl
        refine z_aload_n hX rfl (by first | rfl | exact va_rf_r _) dX1_number_115 ?_
        refine z_aload_n hX rfl (by first | rfl | exact va_rf_r _) dX1_number_116 ?_
        refine zm_get hX 15 (by decide) q1385 dX1_number_117 rfl rfl ?_
        refine z_callv (z_runV hX (m_fails _ _ hD hT2 (by omega)) (cwV 1 hX.ts (lw_V q1572 q1574 qs38 q71 q1575) rfl rfl rfl (by decide +kernel) (zroom (by decide) (by decide))) dX1_number_120 mM_0 (ci := 1) rfl rfl rfl rfl (by first | exact Nat.le_of_ble_eq_true rfl | simp [va_rf_c, Value.category]) (zhf (by omega) (by omega))) (fun μ_120 h_120 => ?_)
        obtain rfl := h_120; rw [pW_pW, e15]
        refine fin3 (pFa q2 q2.1) (pFa_v hv2 (by omega)) ?_
        rw [pNuB, if_pos (of_decide_eq_true h_112)] at he2
        exact he2
    have e15 : pW s (p, q.2) 15 = p := rfl
    have bad : p = q.1 ∨ ¬ (lo ≤ v ∧ v ≤ hi) → zW X (zR 2 0 0) E (mM E ν m0 ad (pW s (p, q.2)) A) 0 0 Q 93 [some (.ref m0), some (.int (zI lo)), some (.int (zI hi)), some (.int (zI q.1)), some (.int (zI v))] [] := by
      intro hb
      refine z_aload_n hX rfl (by first | rfl | exact va_rf_r _) dX1_number_93 ?_
      refine z_iload_n hX rfl dX1_number_94 ?_
      refine z_callv (z_runV hX (m_fails _ _ hD hTp (by omega)) (cwV 1 hX.ts (lw_V q1572 q1574 qs38 q71 q1575) rfl rfl rfl (by decide +kernel) (zroom (by decide) (by decide))) dX1_number_95 mM_0 (ci := 1) rfl rfl rfl rfl (by first | exact Nat.le_of_ble_eq_true rfl | simp [va_rf_c, Value.category]) (zhf (by omega) (by omega))) (fun μ_95 h_95 => ?_)
      obtain rfl := h_95; rw [pW_pW]
      refine fin2 (pFa (p, q.2) q.1) (pFa_v hpv (by omega)) ?_
      rw [pNuS, he, pNuA, if_pos hb]
    refine z_aload_n hX rfl (by first | rfl | exact va_rf_r _) dX1_number_72 ?_
    refine zm_get hX 15 (by decide) q1385 dX1_number_73 rfl rfl ?_
    refine z_iload_n hX rfl dX1_number_76 ?_
    refine z_icmp_eq hX (by omega) (by omega) dX1_number_77 (tgt := 93) rfl (fun h_77 => ?_) (fun h_77 => ?_)
    · exact bad (Or.inl h_77)
    · refine z_iload hX rfl dX1_number_80 ?_
      refine z_i2l hX (by omega) dX1_number_82 ?_
      refine z_iload_n hX rfl dX1_number_83 ?_
      refine z_i2l hX (by omega) dX1_number_84 ?_
      refine z_iload_n hX rfl dX1_number_85 ?_
      refine z_i2l hX (by omega) dX1_number_86 ?_
      refine z_callb (z_runS hX (m_in _ _ _ (by omega) (by omega) (by omega)) (va_cwS 3 hX.ts (lw_S q1501 q1502 q71 q1503) rfl rfl rfl (by decide +kernel) (zroom (by decide) (by decide))) dX1_number_87 rfl rfl rfl (by first | exact Nat.le_of_ble_eq_true rfl | simp [va_rf_c, Value.category]) (zhf (by omega) (by omega))) (fun r_87 μ_87 h_87 => ?_)
      obtain ⟨rfl, rfl⟩ := h_87
      refine z_if_ne_b hX dX1_number_90 (tgt := 98) rfl (fun h_90 => ?_) (fun h_90 => ?_)
      · refine fin2 (p, q.2) hpv ?_
        rw [pNuS, he, pNuA, if_neg]
        rintro (hh | hh)
        · exact h_77 hh
        · exact hh (of_decide_eq_true h_90)
      · exact bad (Or.inr (of_decide_eq_false h_90))
  have st : ∀ (v p : Int) (d : Nat), q.2 = -1000001 → q.1 ≤ p → p ≤ L → p + d = q.1 + 2 → 0 ≤ v → v ≤ 99 → (d = 2 → v = 0) → (d = 1 → v ≤ 9) → ((d = 0 ∨ ¬ (48 ≤ cAt L Y p ∧ cAt L Y p ≤ 57)) → pNuR L Y q = (v, p)) → ((d = 2 ∨ d = 1) → 48 ≤ cAt L Y p ∧ cAt L Y p ≤ 57 → zW X (zR 2 0 0) E (mM E ν m0 ad (pW s (p + 1, q.2)) A) 0 0 Q 8 [some (.ref m0), some (.int (zI lo)), some (.int (zI hi)), some (.int (zI q.1)), some (.int (zI (10 * v + cAt L Y p - 48)))] []) → zW X (zR 2 0 0) E (mM E ν m0 ad (pW s (p, q.2)) A) 0 0 Q 8 [some (.ref m0), some (.int (zI lo)), some (.int (zI hi)), some (.int (zI q.1)), some (.int (zI v))] [] := by
    intro v p d hN hp1 hp2 hd hv0 hv9 hv2 hv1 hend hgo
    have hpv : qV L (p, q.2) := ⟨by simp only; omega, hq2⟩
    have hTp := mTxt_w hT hpv
    have e15 : pW s (p, q.2) 15 = p := rfl
    have e16 : pW s (p, q.2) 16 = q.2 := rfl
    have hcr := cAt_r ht (show 0 ≤ p by omega)
    refine z_aload_n hX rfl (by first | rfl | exact va_rf_r _) dX1_number_8 ?_
    refine zm_get hX 16 (by decide) q1386 dX1_number_9 rfl rfl ?_
    refine z_ldc hX (z := -1000001) q1369 (by decide) dX1_number_12 ?_
    refine z_icmp_ne hX (by omega) (by omega) dX1_number_14 (tgt := 72) rfl (fun h_14 => ?_) (fun h_14 => ?_)
    · exact absurd (e16.trans hN) h_14
    · refine z_aload_n hX rfl (by first | rfl | exact va_rf_r _) dX1_number_17 ?_
      refine zm_get hX 15 (by decide) q1385 dX1_number_18 rfl rfl ?_
      refine z_iload_n hX rfl dX1_number_21 ?_
      refine z_iconst hX dX1_number_22 ?_
      refine z_iadd hX dX1_number_23 ?_
      refine z_icmp_ge hX (by omega) (by omega) dX1_number_24 (tgt := 72) rfl (fun h_24 => ?_) (fun h_24 => ?_)
      · exact fin p v (hend (Or.inl (by omega)))
      · refine z_aload_n hX rfl (by first | rfl | exact va_rf_r _) dX1_number_27 ?_
        refine z_calli (z_runV hX (m_next _ _ hD (p := p) hTp.1.1 hTp.1.2.1 hTp.1.2.2.1 ht hpv.1) (cwV 0 hX.ts (lw_V q1564 q1566 qs36 q71 q1567) rfl rfl rfl (by decide +kernel) (zroom (by decide) (by decide))) dX1_number_28 mM_0 (ci := 1) rfl rfl rfl rfl (by first | exact Nat.le_of_ble_eq_true rfl | simp [va_rf_c, Value.category]) (zhf (by omega) (by omega))) (fun r_28 μ_28 h_28 => ?_)
        obtain ⟨rfl, rfl⟩ := h_28
        refine z_i2l hX (by omega) dX1_number_31 ?_
        refine z_ldc2_w hX (z := 48) q1588 (by decide) dX1_number_32 ?_
        refine z_ldc2_w hX (z := 57) q1589 (by decide) dX1_number_35 ?_
        refine z_callb (z_runS hX (m_in _ _ _ (by omega) (by omega) (by omega)) (va_cwS 3 hX.ts (lw_S q1501 q1502 q71 q1503) rfl rfl rfl (by decide +kernel) (zroom (by decide) (by decide))) dX1_number_38 rfl rfl rfl (by first | exact Nat.le_of_ble_eq_true rfl | simp [va_rf_c, Value.category]) (zhf (by omega) (by omega))) (fun r_38 μ_38 h_38 => ?_)
        obtain ⟨rfl, rfl⟩ := h_38
        refine z_if_eq_b hX dX1_number_41 (tgt := 72) rfl (fun h_41 => ?_) (fun h_41 => ?_)
        · exact fin p v (hend (Or.inr (of_decide_eq_false h_41)))
        · have hdg := of_decide_eq_true h_41
          refine z_bipush hX (by decide) dX1_number_44 ?_
          refine z_iload hX rfl dX1_number_46 ?_
          refine z_imul hX dX1_number_48 ?_
          refine z_aload_n hX rfl (by first | rfl | exact va_rf_r _) dX1_number_49 ?_
          refine z_calli (z_runV hX (m_next _ _ hD (p := p) hTp.1.1 hTp.1.2.1 hTp.1.2.2.1 ht hpv.1) (cwV 0 hX.ts (lw_V q1564 q1566 qs36 q71 q1567) rfl rfl rfl (by decide +kernel) (zroom (by decide) (by decide))) dX1_number_50 mM_0 (ci := 1) rfl rfl rfl rfl (by first | exact Nat.le_of_ble_eq_true rfl | simp [va_rf_c, Value.category]) (zhf (by omega) (by omega))) (fun r_50 μ_50 h_50 => ?_)
          obtain ⟨rfl, rfl⟩ := h_50
          refine z_iadd hX dX1_number_53 ?_
          refine z_bipush hX (by decide) dX1_number_54 ?_
          refine z_isub hX dX1_number_56 ?_
          refine z_istore hX (lv' := [_, _, _, _, _]) (Nat.le_of_ble_eq_true rfl) (by first | exact zpre_0 | exact zpre_n rfl | exact zpre_1 rfl rfl | exact zpre_1 rfl (va_rf_c _)) rfl dX1_number_57 ?_
          refine z_aload_n hX rfl (by first | rfl | exact va_rf_r _) dX1_number_59 ?_
          refine z_dup hX (by first | rfl | exact va_rf_c _) dX1_number_60 ?_
          refine zm_get hX 15 (by decide) q1385 dX1_number_61 rfl rfl ?_
          refine z_iconst hX dX1_number_64 ?_
          refine z_iadd hX dX1_number_65 ?_
          refine zm_puti hX hD 15 (by decide) q1385 dX1_number_66 rfl mset_15 ?_
          rw [pW_15]
          refine z_goto hX (tgt := 8) dX1_number_69 rfl ?_
          exact hgo (by omega) hdg
  refine z_aload_n hX rfl (by first | rfl | exact va_rf_r _) dX1_number_0 ?_
  refine zm_get hX 15 (by decide) q1385 dX1_number_1 rfl rfl ?_
  refine z_istore_n hX (lv' := [_, _, _, _, _]) (Nat.le_of_ble_eq_true rfl) (by first | exact zpre_0 | exact zpre_n rfl | exact zpre_1 rfl rfl | exact zpre_1 rfl (va_rf_c _)) rfl dX1_number_4 ?_
  refine z_iconst hX dX1_number_5 ?_
  refine z_istore hX (lv' := [_, _, _, _, _]) (Nat.le_of_ble_eq_true rfl) (by first | exact zpre_0 | exact zpre_n rfl | exact zpre_1 rfl rfl | exact zpre_1 rfl (va_rf_c _)) rfl dX1_number_6 ?_
  by_cases hN : q.2 = -1000001
  · have h0 := st 0 q.1 2 hN (by omega) (by omega) (by omega) (by omega) (by omega) (fun _ => rfl) (by omega)
    rw [show (q.1, q.2) = q from rfl, pW_id h15 h16] at h0
    rw [h15]
    refine h0 (fun hh => ?_) (fun _ hdg => ?_)
    · rw [pNuR, if_pos hN, nuF, if_neg (by omega)]
    · have hlt := cAt_lt (L := L) (X := Y) (p := q.1) (by omega)
      refine st _ (q.1 + 1) 1 hN (by omega) (by omega) (by omega) (by omega) (by omega) (by omega) (by omega) (fun hh => ?_) (fun _ hdg2 => ?_)
      · rw [pNuR, if_pos hN, nuF, if_pos hdg, if_neg (by omega)]
        rw [show 10 * 0 + cAt L Y q.1 - 48 = cAt L Y q.1 - 48 by omega]
      · have hlt2 := cAt_lt (L := L) (X := Y) (p := q.1 + 1) (by omega)
        rw [show q.1 + 1 + 1 = q.1 + 2 by omega]
        refine st _ (q.1 + 2) 0 hN (by omega) (by omega) (by omega) (by omega) (by omega) (by omega) (by omega) (fun hh => ?_) (fun hh _ => absurd hh (by omega))
        rw [pNuR, if_pos hN, nuF, if_pos hdg, if_pos hdg2]
        rw [show 10 * (10 * 0 + cAt L Y q.1 - 48) + cAt L Y (q.1 + 1) - 48 = 10 * (cAt L Y q.1 - 48) + cAt L Y (q.1 + 1) - 48 by omega]
  · rw [h15]
    refine z_aload_n hX rfl (by first | rfl | exact va_rf_r _) dX1_number_8 ?_
    refine zm_get hX 16 (by decide) q1386 dX1_number_9 rfl rfl ?_
    refine z_ldc hX (z := -1000001) q1369 (by decide) dX1_number_12 ?_
    refine z_icmp_ne hX (by omega) (by omega) dX1_number_14 (tgt := 72) rfl (fun h_14 => ?_) (fun h_14 => ?_)
    · have h0 := fin q.1 0 (by rw [pNuR, if_neg hN])
      rw [show (q.1, q.2) = q from rfl, pW_id h15 h16] at h0
      exact h0
    · exact absurd (h16.symm.trans h_14) hN
