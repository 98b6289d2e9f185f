/-! TIGHT cycles are the least: plain law -/
theorem cs_csF {a : Int → Int} {n d : Int} {bt : Bool} : ∀ p : List Int, cs (csF a n d bt) p = d * esum a 2 p - n * (if bt = true then esum a 4 p else (p.length : Int))
  | [] => by
    rw [cs_nil]
    cases bt <;> simp [esum]
  | e :: p => by
    rw [cs_cons, cs_csF p]
    have e2 : esum a 2 (e :: p) = a (7 * e + 2) + esum a 2 p := by simp [esum]
    have e4 : esum a 4 (e :: p) = a (7 * e + 4) + esum a 4 p := by simp [esum]
    rw [e2, e4]
    unfold csF
    cases bt with
    | true =>
      rw [if_pos rfl, if_pos rfl, if_pos rfl, Int.mul_add, Int.mul_add]
      omega
    | false =>
      rw [if_neg (by decide), if_neg (by decide), if_neg (by decide), Int.mul_add, List.length_cons, Int.natCast_add, Int.mul_add]
      omega
theorem tgL_bit {a c f : Int → Int} : ∀ (es : List Int) (M : Nat) (j : Nat), (tgL a c f M es).testBit j = (M.testBit j || es.any (fun e => decide (e.toNat = j) && decide (f (a (7 * e)) + c e = f (a (7 * e + 1)))))
  | [], M, j => by simp [tgL]
  | e :: es, M, j => by
    have h1 : tgL a c f M (e :: es) = tgL a c f (if f (a (7 * e)) + c e = f (a (7 * e + 1)) then M ||| 2 ^ e.toNat else M) es := rfl
    rw [h1, tgL_bit es, List.any_cons]
    by_cases q : f (a (7 * e)) + c e = f (a (7 * e + 1))
    · rw [if_pos q, decide_eq_true q, Bool.and_true, Nat.testBit_or, Nat.testBit_two_pow, Bool.or_assoc]
    · rw [if_neg q, decide_eq_false q, Bool.and_false, Bool.false_or]
theorem tgL_filter {a c f : Int → Int} {n : Int} : (er 0 n).filter (fun e => (tgL a c f 0 (er 0 n)).testBit e.toNat) = (er 0 n).filter (fun e => decide (f (a (7 * e)) + c e = f (a (7 * e + 1)))) := by
  apply List.filter_congr
  intro e he
  have he0 := (er_mem.mp he).1
  rw [tgL_bit, Nat.zero_testBit, Bool.false_or]
  apply Bool.eq_iff_iff.mpr
  rw [List.any_eq_true, decide_eq_true_eq]
  constructor
  · rintro ⟨z, z1, z2⟩
    rw [Bool.and_eq_true, decide_eq_true_eq, decide_eq_true_eq] at z2
    have := (er_mem.mp z1).1
    obtain rfl : z = e := by omega
    exact z2.2
  · intro q
    exact ⟨e, he, by rw [Bool.and_eq_true, decide_eq_true_eq, decide_eq_true_eq]; exact ⟨rfl, q⟩⟩
theorem tight_walk {a c F : Int → Int} {es : List Int} (h : ∀ e ∈ es, F (a (7 * e + 1)) ≤ F (a (7 * e)) + c e) : ∀ {p : List Int} {u v : Int}, pw a es u p v → (p.all (fun e => decide (F (a (7 * e)) + c e = F (a (7 * e + 1)))) = true ↔ F u + cs c p = F v)
  | [], u, v, hp => by
    have hp : u = v := hp
    rw [hp, cs_nil]
    simp
  | e :: p, u, v, hp => by
    have ih := tight_walk h hp.2.2
    have h1 := pot_walk h hp.2.2
    have h2 := h e hp.1
    rw [hp.2.1] at h2
    rw [List.all_cons, Bool.and_eq_true, ih, decide_eq_true_eq, hp.2.1, cs_cons]
    constructor
    · rintro ⟨q1, q2⟩
      omega
    · intro q
      omega
theorem nR_er {a : Int → Int} (hg : gV a) : nR a (er 0 (a 112)) := fun e he => by
  have h := hg.2 e (er_mem.mp he).1 (er_mem.mp he).2
  unfold eV at h
  exact ⟨h.1, h.2.1⟩
theorem gBest_f (k : Int) (a : Int → Int) (hk : k = 0 ∨ k = 1) : gBest k a = (gC a).foldl (fun b p => wgh 1 (esum a 2 p) (vDn k a p) p b) none := by
  unfold gBest
  congr 1
  funext b p
  unfold wst vG vUp
  rw [if_neg (by omega), if_neg (by omega)]
theorem vDn_bt (k : Int) (a : Int → Int) (p : List Int) (hk : k = 0 ∨ k = 1) : vDn k a p = if decide (k = 1) = true then esum a 4 p else (p.length : Int) := by
  unfold vDn
  rw [if_neg (by omega)]
  rcases hk with rfl | rfl
  · rfl
  · rfl
theorem vDn_pos {k : Int} {a : Int → Int} (hg : gV a) (hk : k = 0 ∨ k = 1) : ∀ p ∈ gC a, 0 < vDn k a p := fun p hp => by
  have h := gC_mem hp
  have h4 := esum_t hg h.1.2 h.1.1 h.2
  unfold vDn
  rw [if_neg (by omega)]
  split <;> omega
/-- the best cycle of means or ratios: its costs settle, its tight cycles are found -/
theorem best_tight {k : Int} {a : Int → Int} (hg : gV a) (hk : k = 0 ∨ k = 1) {b : Int × Int × List Int} (hb : gBest k a = some b) : NN a (csF a (frN b.1 b.2.1) (frD b.1 b.2.1) (decide (k = 1))) (er 0 (a 112)) ∧ (rxN a (csF a (frN b.1 b.2.1) (frD b.1 b.2.1) (decide (k = 1))) 9 (fun _ => 0)).2 = true ∧ fcB a (tgS a (frN b.1 b.2.1) (frD b.1 b.2.1) (decide (k = 1)) (rxN a (csF a (frN b.1 b.2.1) (frD b.1 b.2.1) (decide (k = 1))) 9 (fun _ => 0)).1) (frN b.1 b.2.1) (frD b.1 b.2.1) = some (redB b) := by
  have hI := bI_all (U := esum a 2) (D := vDn k a) (gC a) (vDn_pos hg hk)
  rw [← gBest_f k a hk, hb] at hI
  obtain ⟨h1, h2, h3, h4, h5⟩ := hI
  have hb0 : 0 < b.2.1 := by rw [h2]; exact vDn_pos hg hk _ h3
  obtain ⟨fb1, fb2⟩ := fr_back (n := b.1) (d := b.2.1) hb0
  have hG := (frG_pos (n := b.1) (d := b.2.1) hb0)
  have hcs : ∀ p, b.2.1 * esum a 2 p - b.1 * vDn k a p = frG b.1 b.2.1 * cs (csF a (frN b.1 b.2.1) (frD b.1 b.2.1) (decide (k = 1))) p := fun p => by
    rw [cs_csF, ← vDn_bt k a p hk, Int.mul_sub, ← Int.mul_assoc, ← Int.mul_assoc, ← fb1, ← fb2]
  have hNN : NN a (csF a (frN b.1 b.2.1) (frD b.1 b.2.1) (decide (k = 1))) (er 0 (a 112)) := fun p hp => by
    have h6 := h4 p hp
    have h7 := hcs p
    rw [Int.mul_comm (esum a 2 p)] at h6
    exact Int.nonneg_of_mul_nonneg_right (a := frG b.1 b.2.1) (by omega) hG.2
  have hset : (rxN a (csF a (frN b.1 b.2.1) (frD b.1 b.2.1) (decide (k = 1))) 9 (fun _ => 0)).2 = true := by
    rw [rxN_G]
    exact rxG_settles (nR_er hg) hNN 9 0 _ (WA_0 _ _ _) (UB_0 _ _ _) (by omega) (by omega)
  refine ⟨hNN, hset, ?_⟩
  have hpot : ∀ e ∈ er 0 (a 112), (rxN a (csF a (frN b.1 b.2.1) (frD b.1 b.2.1) (decide (k = 1))) 9 (fun _ => 0)).1 (a (7 * e + 1)) ≤ (rxN a (csF a (frN b.1 b.2.1) (frD b.1 b.2.1) (decide (k = 1))) 9 (fun _ => 0)).1 (a (7 * e)) + csF a (frN b.1 b.2.1) (frD b.1 b.2.1) (decide (k = 1)) e := by
    rw [rxN_G] at hset ⊢
    exact rxG_pot 9 _ hset
  generalize (rxN a (csF a (frN b.1 b.2.1) (frD b.1 b.2.1) (decide (k = 1))) 9 (fun _ => 0)).1 = F at *
  unfold fcB tgS
  rw [tgL_filter, gCs_filter, gCs_all]
  have hfil : (gC a).filter (fun p => p.all (fun e => decide (F (a (7 * e)) + csF a (frN b.1 b.2.1) (frD b.1 b.2.1) (decide (k = 1)) e = F (a (7 * e + 1))))) = (gC a).filter (fun q => decide (esum a 2 q * b.2.1 = b.1 * vDn k a q)) := by
    apply List.filter_congr
    intro p hp
    rw [← gCs_all] at hp
    obtain ⟨s, hs, hd⟩ := gCs_mem.mp hp
    have hw := gW_pw ((gD_iff 8).mp hd).1
    apply Bool.eq_iff_iff.mpr
    rw [tight_walk hpot hw, decide_eq_true_eq]
    have h7 := hcs p
    rw [Int.mul_comm (esum a 2 p)]
    constructor
    · intro q
      rw [show cs (csF a (frN b.1 b.2.1) (frD b.1 b.2.1) (decide (k = 1))) p = 0 by omega, Int.mul_zero] at h7
      omega
    · intro q
      have h8 : frG b.1 b.2.1 * cs (csF a (frN b.1 b.2.1) (frD b.1 b.2.1) (decide (k = 1))) p = 0 := by omega
      rcases Int.mul_eq_zero.mp h8 with z | z
      · omega
      · omega
  rw [hfil, h5]
  show some (frN b.1 b.2.1, frD b.1 b.2.1, b.2.2) = some (redB b)
  unfold frN frD redB
  rw [hG.1]
