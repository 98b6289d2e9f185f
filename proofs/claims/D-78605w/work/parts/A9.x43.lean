/-! X SIDE 43: a fault once found stays: plain law -/
abbrev NF : Int := -1000001
theorem pTk_f {L : Int} {Y : Int → Int} {q : pSt} {c : Int} (h : q.2 ≠ -1000001) : pTk L Y q c = false := decide_eq_false (fun z => h z.1)
theorem pTkS_f {L : Int} {Y : Int → Int} {q : pSt} {c : Int} (h : q.2 ≠ -1000001) : pTkS L Y q c = q := by
  unfold pTkS
  rw [pTk_f h]
  rfl
theorem pFa_f {q : pSt} {w : Int} (h : q.2 ≠ -1000001) : (pFa q w).2 = q.2 := if_neg h
theorem pOnS_f {L : Int} {Y : Int → Int} {q : pSt} {lo hi : Int} (h : q.2 ≠ -1000001) : (pOnS L Y q lo hi).2 = q.2 := by
  unfold pOnS
  rw [if_neg (fun z => h z.1)]
  exact pFa_f h
theorem pNuS_f {L : Int} {Y : Int → Int} {q : pSt} {lo hi : Int} (h : q.2 ≠ -1000001) : (pNuS L Y q lo hi).2 = q.2 := by
  have h1 : pNuR L Y q = (0, q.1) := if_neg h
  have h2 : pNuA q lo hi (0, q.1) = pFa (q.1, q.2) q.1 := if_pos (Or.inl rfl)
  have h3 : (pFa (q.1, q.2) q.1).2 = q.2 := pFa_f h
  unfold pNuS pBl
  rw [h1, h2]
  unfold pNuB
  split
  · show (pFa (pFa (q.1, q.2) q.1) _).2 = q.2
    rw [pFa_f (by rw [h3]; exact h), h3]
  · exact h3
theorem eMu_f {L : Int} {Y : Int → Int} {q : pSt} {c : Int} (h : q.2 ≠ -1000001) : (eMu L Y q c).2 = q.2 := by
  unfold eMu
  rw [pTk_f h, if_neg (by decide), pTkS_f h]
  exact pFa_f h
theorem eNd_f {L : Int} {Y : Int → Int} {q : pSt} (h : q.2 ≠ -1000001) : (eNd L Y q).2.2 = q.2 := pOnS_f h
theorem eWt_f {L : Int} {Y : Int → Int} {q : pSt} (h : q.2 ≠ -1000001) : (eWt L Y q).2.2 = q.2 := by
  show (pNuS L Y (pTkS L Y q 45) 0 99).2 = q.2
  rw [pTkS_f h]
  exact pNuS_f h
theorem eTm_f {L : Int} {Y : Int → Int} {q : pSt} (h : q.2 ≠ -1000001) : (eTm L Y q).2.2 = q.2 := by
  unfold eTm
  rw [pTk_f h, if_neg (by decide), pTkS_f h]
theorem eSl_f {L : Int} {Y : Int → Int} {q : pSt} (h : q.2 ≠ -1000001) : (eSl L Y q).2.2 = q.2 := by
  unfold eSl
  rw [pTk_f h, if_neg (by decide), pTkS_f h]
theorem eRt_f {L : Int} {Y : Int → Int} {q : pSt} (h : q.2 ≠ -1000001) : (eRt L Y q).2.2 = q.2 := by
  unfold eRt
  rw [pTk_f h, if_neg (by decide), pTkS_f h]
/-- what is still read behind each part -/
def eT5 (L : Int) (Y : Int → Int) (q : pSt) : pSt := eMu L Y (eRt L Y q).2 59
def eT4 (L : Int) (Y : Int → Int) (q : pSt) : pSt := eT5 L Y (eSl L Y q).2
def eT3 (L : Int) (Y : Int → Int) (q : pSt) : pSt := eT4 L Y (eTm L Y q).2
def eT2 (L : Int) (Y : Int → Int) (q : pSt) : pSt := eT3 L Y (eWt L Y q).2
def eT1 (L : Int) (Y : Int → Int) (q : pSt) : pSt := eT2 L Y (eNd L Y q).2
theorem rdF_T (L : Int) (Y : Int → Int) (q : pSt) : (rdF L Y q).2 = eT1 L Y (eNd L Y q).2 := rfl
theorem eT5_f {L : Int} {Y : Int → Int} {q : pSt} (h : q.2 ≠ -1000001) : (eT5 L Y q).2 = q.2 := by
  have h1 := eRt_f (L := L) (Y := Y) h
  unfold eT5
  rw [eMu_f (by rw [h1]; exact h), h1]
theorem eT4_f {L : Int} {Y : Int → Int} {q : pSt} (h : q.2 ≠ -1000001) : (eT4 L Y q).2 = q.2 := by
  have h1 := eSl_f (L := L) (Y := Y) h
  unfold eT4
  rw [eT5_f (by rw [h1]; exact h), h1]
theorem eT3_f {L : Int} {Y : Int → Int} {q : pSt} (h : q.2 ≠ -1000001) : (eT3 L Y q).2 = q.2 := by
  have h1 := eTm_f (L := L) (Y := Y) h
  unfold eT3
  rw [eT4_f (by rw [h1]; exact h), h1]
theorem eT2_f {L : Int} {Y : Int → Int} {q : pSt} (h : q.2 ≠ -1000001) : (eT2 L Y q).2 = q.2 := by
  have h1 := eWt_f (L := L) (Y := Y) h
  unfold eT2
  rw [eT3_f (by rw [h1]; exact h), h1]
theorem eT1_f {L : Int} {Y : Int → Int} {q : pSt} (h : q.2 ≠ -1000001) : (eT1 L Y q).2 = q.2 := by
  have h1 := eNd_f (L := L) (Y := Y) h
  unfold eT1
  rw [eT2_f (by rw [h1]; exact h), h1]
/-- a digit where a mark is asked for -/
theorem pTk_d {L : Int} {Y : Int → Int} {p c : Int} (hd : 48 ≤ cAt L Y p ∧ cAt L Y p ≤ 57) (hc : c < 48 ∨ 57 < c) : pTk L Y (p, -1000001) c = false := decide_eq_false (fun z => by have := z.2; dsimp only at this; omega)
theorem pTkS_d {L : Int} {Y : Int → Int} {p c : Int} (hd : 48 ≤ cAt L Y p ∧ cAt L Y p ≤ 57) (hc : c < 48 ∨ 57 < c) : pTkS L Y (p, -1000001) c = (p, -1000001) := by
  unfold pTkS
  rw [pTk_d hd hc]
  rfl
theorem eT5_d {L : Int} {Y : Int → Int} {p : Int} (hd : 48 ≤ cAt L Y p ∧ cAt L Y p ≤ 57) : (eT5 L Y (p, -1000001)).2 = p := by
  have h1 : (eRt L Y (p, -1000001)).2 = (p, -1000001) := by
    unfold eRt
    rw [pTk_d hd (by omega), if_neg (by decide), pTkS_d hd (by omega)]
  unfold eT5
  rw [h1]
  unfold eMu
  rw [pTk_d hd (by omega), if_neg (by decide), pTkS_d hd (by omega)]
  rfl
theorem eT4_d {L : Int} {Y : Int → Int} {p : Int} (hd : 48 ≤ cAt L Y p ∧ cAt L Y p ≤ 57) : (eT4 L Y (p, -1000001)).2 = p := by
  have h1 : (eSl L Y (p, -1000001)).2 = (p, -1000001) := by
    unfold eSl
    rw [pTk_d hd (by omega), if_neg (by decide), pTkS_d hd (by omega)]
  unfold eT4
  rw [h1]
  exact eT5_d hd
theorem blk_d {L : Int} {Y : Int → Int} {p : Int} (hd : 48 ≤ cAt L Y p ∧ cAt L Y p ≤ 57) : blk L Y p = p := by
  show blF L Y (150 + 1) p = p
  rw [blF, if_neg (by omega)]
