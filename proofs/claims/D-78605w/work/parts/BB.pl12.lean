/-! POTENTIALS are in range: plain law -/
theorem potG_b {a : Int → Int} (hg : gV a) : ∀ F, potG a = some F → bd8 F 1000000000000 := fun F hF => by
  rw [potG_eq hg] at hF
  cases h : gBest 0 a with
  | none => rw [xpG_none hg h] at hF; cases hF
  | some b =>
    obtain ⟨hb, hx⟩ := xpG_some hg h
    have hin := gBest_in hg (k := 0) (Or.inl rfl)
    rw [h] at hin
    obtain ⟨i1, i2⟩ := hin
    have n1 := frN_le (n := b.1) (d := b.2.1) (M := 2000) hb (by omega) (by omega)
    have d1 := frD_pos (n := b.1) (d := b.2.1) hb
    have d2 := frD_le (n := b.1) (d := b.2.1) hb
    have hbd := rxN_b (C := 100000) hg (by omega) (csF_b hg (bt := false) n1 ⟨d1, by omega⟩) 9 bd8_0
    rw [hx] at hF
    have hF : (rxN a (csF a (frN b.1 b.2.1) (frD b.1 b.2.1) false) 9 (fun _ => 0)).1 = F := Option.some.inj hF
    rw [← hF]
    intro v v0 v7
    have := hbd v v0 v7
    omega
