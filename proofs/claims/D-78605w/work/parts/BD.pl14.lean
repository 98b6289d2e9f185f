/-! REACH: the sets that are spread: plain law -/
theorem spE_t (a : Int → Int) (M : Nat) (e : Int) : spE a true M e = rcE a M e := rfl
theorem spL_t (a : Int → Int) (l : List Int) (M : Nat) : l.foldl (spE a true) M = rcP a M l := rfl
/-- every walk of k edges at the most is in the set -/
def rU (a : Int → Int) (u : Int) (k : Nat) (M : Nat) : Prop := ∀ p w, pw a (er 0 (a 112)) u p w → p.length ≤ k → M.testBit w.toNat = true
theorem rcP_U {a : Int → Int} {u : Int} {k M : Nat} (h : rU a u k M) : rU a u (k + 1) (rcP a M (er 0 (a 112))) := by
  intro p w hp hl
  by_cases hpn : p = []
  · exact rcP_bit _ _ (h p w hp (by rw [hpn]; exact Nat.zero_le _))
  · obtain ⟨q, e, h1, h2, h3, h4⟩ := pw_snoc hp hpn
    obtain ⟨l, m, hlm⟩ := List.append_of_mem h2
    rw [h1, List.length_append, List.length_singleton] at hl
    have i1 := rcP_bit (a := a) l M (h q _ h3 (by omega))
    have i5 : rcP a M (er 0 (a 112)) = rcP a (rcE a (rcP a M l) e) m := by
      unfold rcP
      rw [hlm, List.foldl_append]
      rfl
    rw [i5]
    refine rcP_bit m _ ?_
    unfold rcE
    rw [if_pos i1, h4, Nat.testBit_or, Nat.testBit_two_pow_self, Bool.or_true]
theorem spF_U {a : Int → Int} {u : Int} : ∀ (n k M : Nat), rU a u k M → rU a u (k + n) (spF a true n M)
  | 0, _, _, h => h
  | n + 1, k, M, h => by
    have := spF_U n (k + 1) _ (rcP_U h)
    rw [show k + (n + 1) = k + 1 + n by omega]
    exact this
theorem spF_S {a : Int → Int} (hg : gV a) {u : Int} : ∀ (n M : Nat), rS a u M → rS a u (spF a true n M)
  | 0, _, h => h
  | n + 1, M, h => spF_S hg n _ (rcP_S hg (er 0 (a 112)) M (fun _ he => he) h)
theorem spS_t {a : Int → Int} (hg : gV a) {u v : Int} (hu : 0 ≤ u ∧ u ≤ 7) (hv : 0 ≤ v ∧ v ≤ 7) : (spS a true u).testBit v.toNat = true ↔ ∃ p, pw a (er 0 (a 112)) u p v := by
  constructor
  · intro h
    exact spF_S hg 8 _ (rS_0 hu) v hv.1 hv.2 h
  · rintro ⟨p, hp⟩
    have hN : NN a (fun _ => 0) (er 0 (a 112)) := fun q _ => by
      have : ∀ q : List Int, cs (fun _ => 0) q = 0 := fun q => by
        induction q with
        | nil => rfl
        | cons e q ih => rw [cs_cons, ih]; rfl
      rw [this]
      exact Int.le_refl _
    obtain ⟨q, q1, q2, q3, q4⟩ := simple_le (nR_er hg) hN p.length (Nat.le_refl _) hp
    have q5 := simple_7 (nR_er hg) q1 q2 hu
    refine spF_U 8 0 _ (fun p w hp hl => ?_) q v q1 (by omega)
    have : p = [] := List.length_eq_zero_iff.mp (by omega)
    subst this
    have hp : u = w := hp
    rw [hp]
    exact Nat.testBit_two_pow_self
/-- the same backwards -/
def bS' (a : Int → Int) (t : Int) (M : Nat) : Prop := ∀ w, 0 ≤ w → w ≤ 7 → M.testBit w.toNat = true → ∃ p, pw a (er 0 (a 112)) w p t
def bU' (a : Int → Int) (t : Int) (k : Nat) (M : Nat) : Prop := ∀ p w, pw a (er 0 (a 112)) w p t → p.length ≤ k → M.testBit w.toNat = true
theorem spE_f (a : Int → Int) (M : Nat) (e : Int) : spE a false M e = if M.testBit (a (7 * e + 1)).toNat = true then M ||| 2 ^ (a (7 * e)).toNat else M := rfl
theorem bkE_S {a : Int → Int} (hg : gV a) {t : Int} {M : Nat} {e : Int} (he : e ∈ er 0 (a 112)) (h : bS' a t M) : bS' a t (spE a false M e) := by
  have hr := nR_er hg e he
  rw [spE_f]
  split
  · next q =>
    intro w w0 w7 hb
    rw [Nat.testBit_or, Bool.or_eq_true, Nat.testBit_two_pow, decide_eq_true_eq] at hb
    rcases hb with hb | hb
    · exact h w w0 w7 hb
    · obtain ⟨p, hp⟩ := h _ hr.2.1 hr.2.2 q
      exact ⟨e :: p, he, by omega, hp⟩
  · exact h
theorem bkL_S {a : Int → Int} (hg : gV a) {t : Int} : ∀ (l : List Int) (M : Nat), (∀ e ∈ l, e ∈ er 0 (a 112)) → bS' a t M → bS' a t (l.foldl (spE a false) M)
  | [], _, _, h => h
  | e :: l, M, hm, h => bkL_S hg l _ (fun x hx => hm x (List.mem_cons_of_mem _ hx)) (bkE_S hg (hm e List.mem_cons_self) h)
theorem bkF_S {a : Int → Int} (hg : gV a) {t : Int} : ∀ (n M : Nat), bS' a t M → bS' a t (spF a false n M)
  | 0, _, h => h
  | n + 1, M, h => bkF_S hg n _ (bkL_S hg (er 0 (a 112)) M (fun _ he => he) h)
theorem bkL_bit {a : Int → Int} {j : Nat} : ∀ (l : List Int) (M : Nat), M.testBit j = true → (l.foldl (spE a false) M).testBit j = true
  | [], _, h => h
  | e :: l, M, h => bkL_bit l _ (by
    rw [spE_f]
    split
    · rw [Nat.testBit_or, h, Bool.true_or]
    · exact h)
theorem bkL_U {a : Int → Int} {t : Int} {k M : Nat} (h : bU' a t k M) : bU' a t (k + 1) ((er 0 (a 112)).foldl (spE a false) M) := by
  intro p w hp hl
  match p, hp, hl with
  | [], hp, _ => exact bkL_bit _ _ (h [] w hp (Nat.zero_le _))
  | e :: q, hp, hl =>
    obtain ⟨h2, h3, h4⟩ := hp
    obtain ⟨l, m, hlm⟩ := List.append_of_mem h2
    rw [List.length_cons] at hl
    have i1 := bkL_bit (a := a) l M (h q _ h4 (by omega))
    rw [hlm, List.foldl_append, List.foldl_cons]
    refine bkL_bit m _ ?_
    rw [spE_f, if_pos i1, h3, Nat.testBit_or, Nat.testBit_two_pow_self, Bool.or_true]
theorem bkF_U {a : Int → Int} {t : Int} : ∀ (n k M : Nat), bU' a t k M → bU' a t (k + n) (spF a false n M)
  | 0, _, _, h => h
  | n + 1, k, M, h => by
    have := bkF_U n (k + 1) _ (bkL_U h)
    rw [show k + (n + 1) = k + 1 + n by omega]
    exact this
theorem spS_f {a : Int → Int} (hg : gV a) {t v : Int} (ht : 0 ≤ t ∧ t ≤ 7) (hv : 0 ≤ v ∧ v ≤ 7) : (spS a false t).testBit v.toNat = true ↔ ∃ p, pw a (er 0 (a 112)) v p t := by
  constructor
  · intro h
    refine bkF_S hg 8 _ (fun w w0 w7 hb => ?_) v hv.1 hv.2 h
    rw [Nat.testBit_two_pow, decide_eq_true_eq] at hb
    exact ⟨[], (show w = t by omega)⟩
  · rintro ⟨p, hp⟩
    have hN : NN a (fun _ => 0) (er 0 (a 112)) := fun q _ => by
      have : ∀ q : List Int, cs (fun _ => 0) q = 0 := fun q => by
        induction q with
        | nil => rfl
        | cons e q ih => rw [cs_cons, ih]; rfl
      rw [this]
      exact Int.le_refl _
    obtain ⟨q, q1, q2, q3, q4⟩ := simple_le (nR_er hg) hN p.length (Nat.le_refl _) hp
    have q5 := simple_7 (nR_er hg) q1 q2 hv
    refine bkF_U 8 0 _ (fun p w hp hl => ?_) q v q1 (by omega)
    have : p = [] := List.length_eq_zero_iff.mp (by omega)
    subst this
    have hp : w = t := hp
    rw [hp]
    exact Nat.testBit_two_pow_self
/-- the nodes between are the same on both sides -/
theorem xBt_bit {a : Int → Int} (hg : gV a) {f t v : Int} (hf : 0 ≤ f ∧ f ≤ 7) (ht : 0 ≤ t ∧ t ≤ 7) (hv : 0 ≤ v ∧ v ≤ 7) : (xBt a f t).testBit v.toNat = (ldB a f v && ldB a v t) := by
  unfold xBt
  rw [Nat.testBit_and]
  apply Bool.eq_iff_iff.mpr
  rw [Bool.and_eq_true, Bool.and_eq_true, spS_t hg hf hv, spS_f hg ht hv, ldB_iff hg hf hv, ldB_iff hg hv ht]
