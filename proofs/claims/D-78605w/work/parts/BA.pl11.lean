/-! MEANS: cycle, potentials, tight edges the same on both sides: plain law -/
theorem xpG_none {a : Int → Int} (hg : gV a) (h : gBest 0 a = none) : xpG a = none := by
  unfold xpG
  rw [kmG_none hg ((gBest_none (Or.inl rfl) hg).mp h)]
theorem xpG_some {a : Int → Int} (hg : gV a) {b : Int × Int × List Int} (h : gBest 0 a = some b) : 0 < b.2.1 ∧ xpG a = some (frN b.1 b.2.1, frD b.1 b.2.1, (rxN a (csF a (frN b.1 b.2.1) (frD b.1 b.2.1) false) 9 (fun _ => 0)).1) := by
  obtain ⟨u, hu, hu2, hb2, he⟩ := kmG_some hg h
  obtain ⟨f1, f2⟩ := fr_same hu2 hb2 he
  obtain ⟨-, t2, -⟩ := best_tight hg (Or.inl rfl) h
  have ht : decide ((0 : Int) = 1) = false := rfl
  rw [ht] at t2
  refine ⟨hb2, ?_⟩
  unfold xpG
  rw [hu]
  dsimp only
  rw [f1, f2, if_pos t2]
theorem mcB_eq {a : Int → Int} (hg : gV a) : mcB a = (gBest 0 a).map redB := by
  unfold mcB
  cases h : gBest 0 a with
  | none => rw [xpG_none hg h]; rfl
  | some b =>
    obtain ⟨-, t2, t3⟩ := best_tight hg (Or.inl rfl) h
    have ht : decide ((0 : Int) = 1) = false := rfl
    rw [ht] at t3
    rw [(xpG_some hg h).2]
    exact t3
theorem cMean_c {a : Int → Int} {b : Int × Int × List Int} (hb : 0 < b.2.1) : cMean a b = csF a (frN b.1 b.2.1) (frD b.1 b.2.1) false := by
  funext e
  unfold cMean csF frN frD
  rw [(frG_pos (n := b.1) hb).1, if_neg (by decide)]
  omega
theorem potG_eq {a : Int → Int} (hg : gV a) : potG a = (xpG a).map (fun u => u.2.2) := by
  unfold potG
  cases h : gBest 0 a with
  | none => rw [xpG_none hg h]; rfl
  | some b =>
    obtain ⟨hb, hx⟩ := xpG_some hg h
    obtain ⟨-, t2, -⟩ := best_tight hg (Or.inl rfl) h
    have ht : decide ((0 : Int) = 1) = false := rfl
    rw [ht] at t2
    rw [hx]
    have hm : rxN a (csF a (frN b.1 b.2.1) (frD b.1 b.2.1) false) 100 (fun _ => 0) = rxN a (csF a (frN b.1 b.2.1) (frD b.1 b.2.1) false) 9 (fun _ => 0) := by
      rw [rxN_G] at t2
      rw [rxN_G, rxN_G]
      exact rxG_more 9 91 _ t2
    dsimp only
    rw [cMean_c hb, hm, if_pos t2]
    rfl
theorem xpV_eq {a : Int → Int} (hg : gV a) (v : Int) : xpV a v = potR a v := by
  unfold xpV potR
  rw [potG_eq hg]
  cases xpG a <;> rfl
theorem xtV_eq {a : Int → Int} (hg : gV a) : xtV a = tightR a := by
  unfold xtV tightR
  rw [potG_eq hg]
  cases h : gBest 0 a with
  | none => rw [xpG_none hg h]; rfl
  | some b =>
    obtain ⟨hb, hx⟩ := xpG_some hg h
    rw [hx]
    dsimp only [Option.map]
    rw [cMean_c hb]
    rfl
