/-! X SIDE 13: the world of a RatioGraph: the lists of edges, the history -/
set_option maxRecDepth 100000
/-- what kind of thing: its class, or the kind of array -/
def kd : va_E → Nat
  | .inr (ci, _) => ci
  | .inl (_, _, .inl _) => 100
  | .inl (_, _, .inr (.inl _)) => 101
  | .inl _ => 104
theorem zkne {μ : zM} {a b : Nat} {e f : va_E} (ha : μ a = some e) (hb : μ b = some f) (h : kd e ≠ kd f) : a ≠ b := fun q => by
  rw [q, hb] at ha
  cases ha
  exact h rfl
/-- all is kept but things of certain kinds -/
def zKk (ks : List Nat) (μ μ' : zM) : Prop := ∀ q e, μ q = some e → kd e ∉ ks → μ' q = some e
theorem zKk.rf (ks : List Nat) (μ : zM) : zKk ks μ μ := fun _ _ h _ => h
theorem zKk.tr {ks : List Nat} {a b c : zM} (h : zKk ks a b) (k : zKk ks b c) : zKk ks a c := fun q e hq hn => k q e (h q e hq hn) hn
theorem zKk.mono {ks vs : List Nat} {μ μ' : zM} (h : zKk ks μ μ') (hs : ∀ q ∈ ks, q ∈ vs) : zKk vs μ μ' := fun q e hq hn => h q e hq (fun h => hn (hs _ h))
theorem zKp.k {μ μ' : zM} (h : zKp μ μ') (ks : List Nat) : zKk ks μ μ' := fun q e hq _ => h q e hq
theorem zKk.use {ks : List Nat} {μ μ' : zM} (h : zKk ks μ μ') {q : Nat} {e : va_E} (hq : μ q = some e) (n : Nat) (hn : kd e = n) (hd : n ∉ ks) : μ' q = some e := h q e hq (hn ▸ hd)
theorem zKk.at {ks : List Nat} {μ μ' : zM} (h : zKk ks μ μ') {a : Nat} {e0 : va_E} (ha : μ a = some e0) (hk : kd e0 ∈ ks) (e : va_E) : zKk ks μ (zu μ' a e) := fun q x hq hn => zu_o (fun h' => by rw [h', ha] at hq; cases hq; exact hn hk) (h q x hq hn)
theorem zKk.nu {ks : List Nat} {μ μ' : zM} (k : zKk ks μ μ') {a : Nat} (h : μ a = none) (e : va_E) : zKk ks μ (zu μ' a e) := fun q x hq hn => zu_o (fun h' => by rw [h', h] at hq; cases hq) (k q x hq hn)
theorem AL.via {E : zE} {μ μ' : zM} {L arr c : Nat} {rs : List Nat} (h : AL E μ L arr c rs) (h1 : ∀ e, μ L = some e → μ' L = some e) (h2 : (∀ e, μ arr = some e → μ' arr = some e) ∨ (c = 0 ∧ ∃ g, μ' arr = some (zaq E 3 0 g))) : AL E μ' L arr c rs := by
  obtain ⟨mod, g, a1, a2, a3, a4, a5⟩ := h
  rcases h2 with h2 | ⟨hc, g', hg⟩
  · exact ⟨mod, g, h1 _ a1, h2 _ a2, a3, a4, a5⟩
  · subst hc
    exact ⟨mod, g', h1 _ a1, hg, a3, a4, fun i hi => absurd hi (by omega)⟩
theorem AL.k17 {E : zE} {μ : zM} {L arr c : Nat} {rs : List Nat} (h : AL E μ L arr c rs) : ∃ e, μ L = some e ∧ kd e = 17 := by
  obtain ⟨mod, g, a1, -⟩ := h
  exact ⟨_, a1, rfl⟩
theorem AL.k104 {E : zE} {μ : zM} {L arr c : Nat} {rs : List Nat} (h : AL E μ L arr c rs) : ∃ e, μ arr = some e ∧ kd e = 104 := by
  obtain ⟨mod, g, -, a2, -⟩ := h
  exact ⟨_, a2, rfl⟩
theorem AL.cap {E : zE} {μ : zM} {L arr c : Nat} {rs : List Nat} (h : AL E μ L arr c rs) {c' : Nat} {g' : Int → Option Nat} (h' : μ arr = some (zaq E 3 c' g')) : c = c' := by
  obtain ⟨mod, g, -, a2, -⟩ := h
  rw [a2] at h'
  have := Option.some.inj h'
  simp only [zaq, Sum.inl.injEq, Prod.mk.injEq] at this
  exact this.2.1
theorem LL.mono {μ μ' : zM} {L : Nat} {lo hi : Int} {ad it : Int → Nat} (h : LL μ L lo hi ad it) (k : ∀ z e, μ z = some e → kd e = 18 ∨ kd e = 19 → μ' z = some e) : LL μ' L lo hi ad it := by
  obtain ⟨mod, h1, h2, h3, h4⟩ := h
  exact ⟨mod, k _ _ h1 (Or.inl rfl), h2, fun i i0 i1 => k _ _ (h3 i i0 i1) (Or.inr rfl), h4⟩
theorem LL.congr {μ : zM} {L : Nat} {lo hi : Int} {ad it it' : Int → Nat} (h : LL μ L lo hi ad it) (k : ∀ i, lo ≤ i → i < hi → it' i = it i) : LL μ L lo hi ad it' := by
  obtain ⟨mod, h1, h2, h3, h4⟩ := h
  exact ⟨mod, h1, h2, fun i i0 i1 => by rw [k i i0 i1]; exact h3 i i0 i1, h4⟩
theorem LL.k18 {μ : zM} {L : Nat} {lo hi : Int} {ad it : Int → Nat} (h : LL μ L lo hi ad it) : ∃ e, μ L = some e ∧ kd e = 18 := by
  obtain ⟨mod, h1, -⟩ := h
  exact ⟨_, h1, rfl⟩
theorem LL.k19 {μ : zM} {L : Nat} {lo hi : Int} {ad it : Int → Nat} (h : LL μ L lo hi ad it) {i : Int} (i0 : lo ≤ i) (i1 : i < hi) : ∃ e, μ (ad i) = some e ∧ kd e = 19 := by
  obtain ⟨mod, h1, h2, h3, h4⟩ := h
  exact ⟨_, h3 i i0 i1, rfl⟩
theorem LL.sz {μ : zM} {L : Nat} {lo hi : Int} {ad it : Int → Nat} (h : LL μ L lo hi ad it) : lo ≤ hi ∧ hi - lo ≤ 100 := by
  obtain ⟨mod, h1, h2, h3, h4⟩ := h
  exact h2
/-- what an operation of the linked list keeps -/
theorem LL.fr {μ μ' : zM} {L : Nat} {lo hi : Int} {ad it : Int → Nat} (h : LL μ L lo hi ad it) (k : ∀ b, b ≠ L → (∀ i, lo ≤ i → i < hi → b ≠ ad i) → μ' b = μ b) : zKk [18, 19] μ μ' := by
  intro z e hz hn
  obtain ⟨e1, k1, k2⟩ := h.k18
  rw [k z (zkne hz k1 (by rw [k2]; intro q; rw [q] at hn; exact hn (by decide))) (fun i i0 i1 => ?_)]
  · exact hz
  · obtain ⟨e2, k3, k4⟩ := h.k19 i0 i1
    exact zkne hz k3 (by rw [k4]; intro q; rw [q] at hn; exact hn (by decide))
theorem LL.frN {μ μ' : zM} {L qn : Nat} {lo hi : Int} {ad it : Int → Nat} (h : LL μ L lo hi ad it) (hq : μ qn = none) (k : ∀ b, b ≠ qn → b ≠ L → (∀ i, lo ≤ i → i < hi → b ≠ ad i) → μ' b = μ b) : zKk [18, 19] μ μ' := by
  intro z e hz hn
  obtain ⟨e1, k1, k2⟩ := h.k18
  rw [k z (zne hz hq) (zkne hz k1 (by rw [k2]; intro q; rw [q] at hn; exact hn (by decide))) (fun i i0 i1 => ?_)]
  · exact hz
  · obtain ⟨e2, k3, k4⟩ := h.k19 i0 i1
    exact zkne hz k3 (by rw [k4]; intro q; rw [q] at hn; exact hn (by decide))
/-- a row of edges in a list: a says the edges, 7 numbers each, and at 112 how many -/
def EL (E : zE) (μ : zM) (L arr c : Nat) (rs : List Nat) (a : Int → Int) : Prop := AL E μ L arr c rs ∧ (rs.length : Int) = a 112 ∧ a 112 ≤ 16 ∧ ∀ i : Int, 0 ≤ i → i < a 112 → ∃ r, rs[i.toNat]? = some r ∧ μ r = some (zed (fun k => a (7 * i + k)))
theorem EL.at {E : zE} {μ : zM} {L arr c : Nat} {rs : List Nat} {a : Int → Int} (h : EL E μ L arr c rs a) : μ L = some (zal (Classical.choose h.1) arr rs.length) := h.1.at
theorem EL.mem {E : zE} {μ : zM} {L arr c : Nat} {rs : List Nat} {a : Int → Int} (h : EL E μ L arr c rs a) {r : Nat} (hr : r ∈ rs) : ∃ g, μ r = some (zed g) := by
  obtain ⟨-, h2, -, h4⟩ := h
  obtain ⟨i, hi⟩ := List.mem_iff_getElem?.mp hr
  have hlt := (List.getElem?_eq_some_iff.mp hi).1
  obtain ⟨r', e1, e2⟩ := h4 i (by omega) (by omega)
  rw [show ((i : Int)).toNat = i by omega, hi] at e1
  cases e1
  exact ⟨_, e2⟩
theorem EL.el {E : zE} {μ : zM} {L arr c : Nat} {rs : List Nat} {a : Int → Int} (h : EL E μ L arr c rs a) : ∀ r ∈ rs, zel RX2 μ r := fun r hr => by
  obtain ⟨g, hg⟩ := h.mem hr
  exact ⟨2, _, TX2, 7, hg, rfl⟩
theorem EL.neL {E : zE} {μ : zM} {L arr c : Nat} {rs : List Nat} {a : Int → Int} (h : EL E μ L arr c rs a) : ∀ r ∈ rs, r ≠ L := fun r hr => by
  obtain ⟨g, hg⟩ := h.mem hr
  obtain ⟨e, e1, e2⟩ := h.1.k17
  exact zkne hg e1 (by rw [e2]; show (2 : Nat) ≠ 17; decide)
/-- the list and its places are kept, or there are no places -/
theorem EL.via {E : zE} {μ μ' : zM} {L arr c : Nat} {rs : List Nat} {a : Int → Int} (h : EL E μ L arr c rs a) (h1 : ∀ e, μ L = some e → μ' L = some e) (h2 : (∀ e, μ arr = some e → μ' arr = some e) ∨ (c = 0 ∧ ∃ g, μ' arr = some (zaq E 3 0 g))) (h3 : ∀ z e, μ z = some e → kd e = 2 → μ' z = some e) : EL E μ' L arr c rs a := by
  obtain ⟨a1, a2, a3, a4⟩ := h
  refine ⟨a1.via h1 h2, a2, a3, fun i i0 i1 => ?_⟩
  obtain ⟨r, e1, e2⟩ := a4 i i0 i1
  exact ⟨r, e1, h3 _ _ e2 rfl⟩
theorem EL.mono {E : zE} {μ μ' : zM} {L arr c : Nat} {rs : List Nat} {a : Int → Int} (h : EL E μ L arr c rs a) (k : ∀ z e, μ z = some e → kd e = 17 ∨ kd e = 104 ∨ kd e = 2 → μ' z = some e) : EL E μ' L arr c rs a := by
  obtain ⟨e1, k1, k2⟩ := h.1.k17
  obtain ⟨e2, k3, k4⟩ := h.1.k104
  refine h.via (fun e he => k _ _ he ?_) (Or.inl fun e he => k _ _ he ?_) (fun z e hz h2 => k z e hz (Or.inr (Or.inr h2)))
  · rw [k1] at he; cases he; exact Or.inl k2
  · rw [k3] at he; cases he; exact Or.inr (Or.inl k4)
/-- rows that agree in what counts -/
def rowE (a b : Int → Int) : Prop := b 112 = a 112 ∧ ∀ j, 0 ≤ j → j < 7 * a 112 → b j = a j
theorem EL.row {E : zE} {μ : zM} {L arr c : Nat} {rs : List Nat} {a b : Int → Int} (h : EL E μ L arr c rs a) (hr : rowE a b) : EL E μ L arr c rs b := by
  obtain ⟨a1, a2, a3, a4⟩ := h
  obtain ⟨r1, r2⟩ := hr
  refine ⟨a1, by rw [r1]; exact a2, by rw [r1]; exact a3, fun i i0 i1 => ?_⟩
  rw [r1] at i1
  obtain ⟨r, e1, e2⟩ := a4 i i0 i1
  refine ⟨r, e1, e2.trans ?_⟩
  simp only [zed]
  rw [r2 (7 * i + 0) (by omega) (by omega), r2 (7 * i + 1) (by omega) (by omega), r2 (7 * i + 2) (by omega) (by omega), r2 (7 * i + 3) (by omega) (by omega), r2 (7 * i + 4) (by omega) (by omega), r2 (7 * i + 5) (by omega) (by omega), r2 (7 * i + 6) (by omega) (by omega)]
/-- the lists lo .. hi, the last one the present one -/
def HL (E : zE) (μ : zM) (lo hi : Int) (it ar cp : Int → Nat) (rs : Int → List Nat) (ro : Int → Int → Int) : Prop := (∀ i, lo ≤ i → i ≤ hi → EL E μ (it i) (ar i) (cp i) (rs i) (ro i)) ∧ (∀ i j, lo ≤ i → i ≤ hi → lo ≤ j → j ≤ hi → it i = it j → i = j) ∧ ∀ i j, lo ≤ i → i ≤ hi → lo ≤ j → j ≤ hi → ar i = ar j → i = j ∨ cp i = 0
theorem HL.sub {E : zE} {μ : zM} {lo hi lo' hi' : Int} {it ar cp : Int → Nat} {rs : Int → List Nat} {ro : Int → Int → Int} (h : HL E μ lo hi it ar cp rs ro) (h1 : lo ≤ lo') (h2 : hi' ≤ hi) : HL E μ lo' hi' it ar cp rs ro := ⟨fun i i0 i1 => h.1 i (by omega) (by omega), fun i j i0 i1 j0 j1 => h.2.1 i j (by omega) (by omega) (by omega) (by omega), fun i j i0 i1 j0 j1 => h.2.2 i j (by omega) (by omega) (by omega) (by omega)⟩
theorem HL.mono {E : zE} {μ μ' : zM} {lo hi : Int} {it ar cp : Int → Nat} {rs : Int → List Nat} {ro : Int → Int → Int} (h : HL E μ lo hi it ar cp rs ro) (k : ∀ z e, μ z = some e → kd e = 17 ∨ kd e = 104 ∨ kd e = 2 → μ' z = some e) : HL E μ' lo hi it ar cp rs ro := ⟨fun i i0 i1 => (h.1 i i0 i1).mono k, h.2⟩
/-- a list more, new -/
theorem HL.push {E : zE} {μ μ' : zM} {lo hi : Int} {it ar cp : Int → Nat} {rs : Int → List Nat} {ro : Int → Int → Int} (h : HL E μ lo hi it ar cp rs ro) {L b c : Nat} {r0 : List Nat} {a : Int → Int} (hn : EL E μ' L b c r0 a) (hL : μ L = none) (hb : μ b = none ∨ (c = 0 ∧ ∃ g, μ b = some (zaq E 3 0 g))) (k : ∀ z e, μ z = some e → z ≠ b → μ' z = some e) : HL E μ' lo (hi + 1) (zf it (hi + 1) L) (zf ar (hi + 1) b) (zf cp (hi + 1) c) (zf rs (hi + 1) r0) (zf ro (hi + 1) a) := by
  have hbk : ∀ z e, μ z = some e → kd e ≠ 104 → z ≠ b := by
    intro z e hz hk
    rcases hb with hb | ⟨-, g, hb⟩
    · exact zne hz hb
    · exact zkne hz hb hk
  have hcap : ∀ i, lo ≤ i → i ≤ hi → ar i = b → cp i = 0 ∧ c = 0 := by
    intro i i0 i1 e
    have h1 := (h.1 i i0 i1).1
    rcases hb with hb | ⟨hc, g, hb⟩
    · obtain ⟨e2, k3, -⟩ := h1.k104
      rw [e, hb] at k3
      cases k3
    · rw [← e] at hb
      exact ⟨h1.cap hb, hc⟩
  refine ⟨fun i i0 i1 => ?_, fun i j i0 i1 j0 j1 e => ?_, fun i j i0 i1 j0 j1 e => ?_⟩
  · by_cases q : i = hi + 1
    · subst q
      simp only [zf_s]
      exact hn
    · simp only [zf_n q]
      have h1 := h.1 i i0 (by omega)
      obtain ⟨e1, k1, k2⟩ := h1.1.k17
      refine h1.via (fun e he => k _ _ he ?_) ?_ (fun z e hz h2 => k z e hz (hbk z e hz (by rw [h2]; decide)))
      · rw [k1] at he
        cases he
        exact hbk _ _ k1 (by rw [k2]; decide)
      · by_cases hq : ar i = b
        · right
          have h2 := hcap i i0 (by omega) hq
          obtain ⟨mod, g, -, a2, -⟩ := hn.1
          rw [h2.2] at a2
          exact ⟨h2.1, g, by rw [hq]; exact a2⟩
        · exact Or.inl fun e he => k _ _ he hq
  · by_cases q : i = hi + 1 <;> by_cases q2 : j = hi + 1
    · omega
    · subst q
      rw [zf_s, zf_n q2] at e
      obtain ⟨e1, k1, -⟩ := (h.1 j j0 (by omega)).1.k17
      rw [← e, hL] at k1
      cases k1
    · subst q2
      rw [zf_s, zf_n q] at e
      obtain ⟨e1, k1, -⟩ := (h.1 i i0 (by omega)).1.k17
      rw [e, hL] at k1
      cases k1
    · rw [zf_n q, zf_n q2] at e
      exact h.2.1 i j i0 (by omega) j0 (by omega) e
  · by_cases q : i = hi + 1 <;> by_cases q2 : j = hi + 1
    · left; omega
    · subst q
      rw [zf_s, zf_n q2] at e
      right
      rw [zf_s]
      exact (hcap j j0 (by omega) e.symm).2
    · subst q2
      rw [zf_s, zf_n q] at e
      right
      rw [zf_n q]
      exact (hcap i i0 (by omega) e).1
    · rw [zf_n q, zf_n q2] at e
      rw [zf_n q]
      exact h.2.2 i j i0 (by omega) j0 (by omega) e
/-- the present list is changed -/
theorem HL.upd {E : zE} {μ μ' : zM} {lo hi : Int} {it ar cp : Int → Nat} {rs : Int → List Nat} {ro : Int → Int → Int} (h : HL E μ lo hi it ar cp rs ro) (hlh : lo ≤ hi) {b c : Nat} {r0 : List Nat} {a : Int → Int} (hn : EL E μ' (it hi) b c r0 a) (hb : (b = ar hi ∧ c = cp hi) ∨ μ b = none) (k : ∀ z e, μ z = some e → z ≠ it hi → z ≠ b → μ' z = some e) : HL E μ' lo hi it (zf ar hi b) (zf cp hi c) (zf rs hi r0) (zf ro hi a) := by
  have hbk : ∀ z e, μ z = some e → kd e ≠ 104 → z ≠ b := by
    intro z e hz hk
    rcases hb with ⟨hb, -⟩ | hb
    · obtain ⟨e2, k3, k4⟩ := (h.1 hi hlh (Int.le_refl _)).1.k104
      rw [hb]
      exact zkne hz k3 (by rw [k4]; exact hk)
    · exact zne hz hb
  have hcap : ∀ i, lo ≤ i → i < hi → ar i = b → cp i = 0 ∧ c = 0 := by
    intro i i0 i1 e
    rcases hb with ⟨hb, hc⟩ | hb
    · rcases h.2.2 i hi i0 (by omega) hlh (Int.le_refl _) (by rw [e, hb]) with q | q
      · omega
      · rcases h.2.2 hi i hlh (Int.le_refl _) i0 (by omega) (by rw [e, hb]) with q2 | q2
        · omega
        · exact ⟨q, by rw [hc]; exact q2⟩
    · obtain ⟨e2, k3, -⟩ := (h.1 i i0 (by omega)).1.k104
      rw [e, hb] at k3
      cases k3
  refine ⟨fun i i0 i1 => ?_, h.2.1, fun i j i0 i1 j0 j1 e => ?_⟩
  · by_cases q : i = hi
    · subst q
      simp only [zf_s]
      exact hn
    · simp only [zf_n q]
      have h1 := h.1 i i0 i1
      obtain ⟨e1, k1, k2⟩ := h1.1.k17
      have hne : it i ≠ it hi := fun e => q (h.2.1 i hi i0 i1 hlh (Int.le_refl _) e)
      obtain ⟨e3, k5, k6⟩ := (h.1 hi hlh (Int.le_refl _)).1.k17
      refine h1.via (fun e he => k _ _ he hne ?_) ?_ (fun z e hz h2 => k z e hz (zkne hz k5 (by rw [h2, k6]; decide)) (hbk z e hz (by rw [h2]; decide)))
      · rw [k1] at he
        cases he
        exact hbk _ _ k1 (by rw [k2]; decide)
      · by_cases hq : ar i = b
        · right
          have h2 := hcap i i0 (by omega) hq
          obtain ⟨mod, g, -, a2, -⟩ := hn.1
          rw [h2.2] at a2
          exact ⟨h2.1, g, by rw [hq]; exact a2⟩
        · obtain ⟨e4, k7, k8⟩ := h1.1.k104
          exact Or.inl fun e he => k _ _ he (zkne k7 k5 (by rw [k8, k6]; decide)) hq
  · by_cases q : i = hi <;> by_cases q2 : j = hi
    · left; omega
    · subst q
      rw [zf_s, zf_n q2] at e
      right
      rw [zf_s]
      exact (hcap j j0 (by omega) e.symm).2
    · subst q2
      rw [zf_s, zf_n q] at e
      right
      rw [zf_n q]
      exact (hcap i i0 (by omega) e).1
    · rw [zf_n q, zf_n q2] at e
      rw [zf_n q]
      exact h.2.2 i j i0 i1 j0 j1 e
/-- the object's fields -/
abbrev zx0 (L h mk tx : Nat) (tl : Int) (fo pc : Option Nat) (hs : Int) : va_E := zob 0 [.ref L, .ref h, .ref mk, .ref tx, .int (zI tl), va_rf fo, va_rf pc, .long (zJ hs)]
/-- the two empty arrays -/
def zO (E : zE) (μ : zM) : Prop := zs E 0 ≠ zs E 1 ∧ (∃ g, μ (zs E 0) = some (zaq E 3 0 g)) ∧ ∃ g, μ (zs E 1) = some (zaq E 3 0 g)
theorem zO.mono {E : zE} {μ μ' : zM} (h : zO E μ) (k : ∀ z e, μ z = some e → kd e = 104 → μ' z = some e) : zO E μ' := by
  obtain ⟨h0, ⟨g, h1⟩, g', h2⟩ := h
  exact ⟨h0, ⟨g, k _ _ h1 rfl⟩, g', k _ _ h2 rfl⟩
theorem zO.upd {E : zE} {μ μ' : zM} (h : zO E μ) {L arr c b c2 : Nat} {rs rs2 : List Nat} (hA : AL E μ L arr c rs) (hn : AL E μ' L b c2 rs2) (hb : (b = arr ∧ c2 = c) ∨ μ b = none) (k : ∀ z e, μ z = some e → z ≠ L → z ≠ b → μ' z = some e) : zO E μ' := by
  have one : ∀ z, (∃ g, μ z = some (zaq E 3 0 g)) → ∃ g, μ' z = some (zaq E 3 0 g) := by
    intro z ⟨g, hg⟩
    obtain ⟨e, e1, e2⟩ := hA.k17
    have hL : z ≠ L := zkne hg e1 (by rw [e2]; show (104 : Nat) ≠ 17; decide)
    by_cases q : z = b
    · rcases hb with ⟨hb, hc⟩ | hb
      · subst q
        rw [hb] at hg
        have := hA.cap hg
        obtain ⟨mod, g2, -, a2, -⟩ := hn
        rw [hc, this] at a2
        exact ⟨g2, a2⟩
      · rw [q, hb] at hg
        cases hg
    · exact ⟨g, k _ _ hg hL q⟩
  exact ⟨h.1, one _ h.2.1, one _ h.2.2⟩
def xC (E : zE) (μ : zM) (x h mk tx : Nat) (tl : Int) (fo pc : Option Nat) (hs : Int) (lo hi : Int) (ad it ar cp : Int → Nat) (rs : Int → List Nat) (ro : Int → Int → Int) : Prop := μ x = some (zx0 (it hi) h mk tx tl fo pc hs) ∧ LL μ h lo hi ad it ∧ HL E μ lo hi it ar cp rs ro ∧ (lo ≤ hi ∧ hi - lo ≤ 12) ∧ zO E μ ∧ ∀ i, lo ≤ i → i ≤ hi → ar i ≠ zs E 1
theorem x_note (l : Launch) (E : zE) {μ : zM} {x h mk tx : Nat} {tl : Int} {fo pc : Option Nat} {hs : Int} {lo hi : Int} {ad it ar cp : Int → Nat} {rs : Int → List Nat} {ro : Int → Int → Int} (hC : xC E μ x h mk tx tl fo pc hs lo hi ad it ar cp rs ro) : Met l yX0_note (ws_ yX0_note cX0_note 1 none) (zR 5 3 22) (va_Pc [.ref x] (zPre E μ)) (zQv E (fun μ' => ∃ q b qn, xC E μ' x h mk tx tl fo pc hs (if hi - lo = 12 then lo + 1 else lo) (hi + 1) (zf ad hi qn) (zf it (hi + 1) q) (zf ar (hi + 1) b) (zf cp (hi + 1) (rs hi).length) (zf rs (hi + 1) (rs hi)) (zf ro (hi + 1) (ro hi)) ∧ zKk [0, 18, 19] μ μ')) 3 22 (zA E) := by
  obtain ⟨hx, hLL, hHL, hsz, hO, hz1⟩ := hC
  have hEL := hHL.1 hi hsz.1 (Int.le_refl _)
  have hlen : (rs hi).length ≤ 16 := by have := hEL.2.1; have := hEL.2.2.1; omega
  refine zmet (cc := cX0_note) [_] (by decide) (Nat.le_of_ble_eq_true rfl) rfl rfl ?_
  intro X hl hX hinit; subst hl
  have hX : zOK X _ cX0_note RX0 none 1 := hX
  generalize hQ : MQ _ _ _ _ _ _ _ = Q
  refine z_aload_n hX rfl (by first | rfl | exact va_rf_r _) dX0_note_0 ?_
  refine z_get hX (C := RX0) (T := TX0) (N := 8) (ci := 0) rfl in_X0 1 (by decide) q161 (Or.inl rfl) dX0_note_1 (by first | assumption | exact zu_s _ _ _ | exact zu_o (by assumption) (by assumption) | exact zu_o (by assumption) (zu_o (by assumption) (by assumption)) | exact (zu_o (by first | assumption | exact Ne.symm (by assumption)) (zu_s _ _ _)) | exact (zu_o (by first | assumption | exact Ne.symm (by assumption)) (by assumption)) | exact (zu_o (by first | assumption | exact Ne.symm (by assumption)) (zu_o (by first | assumption | exact Ne.symm (by assumption)) (zu_s _ _ _))) | exact (zu_o (by first | assumption | exact Ne.symm (by assumption)) (zu_o (by first | assumption | exact Ne.symm (by assumption)) (by assumption))) | exact (zu_o (by first | assumption | exact Ne.symm (by assumption)) (zu_o (by first | assumption | exact Ne.symm (by assumption)) (zu_o (by first | assumption | exact Ne.symm (by assumption)) (zu_s _ _ _)))) | exact (zu_o (by first | assumption | exact Ne.symm (by assumption)) (zu_o (by first | assumption | exact Ne.symm (by assumption)) (zu_o (by first | assumption | exact Ne.symm (by assumption)) (by assumption)))) | exact (zu_o (by first | assumption | exact Ne.symm (by assumption)) (zu_o (by first | assumption | exact Ne.symm (by assumption)) (zu_o (by first | assumption | exact Ne.symm (by assumption)) (zu_o (by first | assumption | exact Ne.symm (by assumption)) (zu_s _ _ _))))) | exact (zu_o (by first | assumption | exact Ne.symm (by assumption)) (zu_o (by first | assumption | exact Ne.symm (by assumption)) (zu_o (by first | assumption | exact Ne.symm (by assumption)) (zu_o (by first | assumption | exact Ne.symm (by assumption)) (by assumption))))) | exact AL.at (by assumption) | exact EL.at (by assumption) | exact LL.at (by assumption)) rfl ?_
  refine z_aload_n hX rfl (by first | rfl | exact va_rf_r _) dX0_note_4 ?_
  refine z_get hX (C := RX0) (T := TX0) (N := 8) (ci := 0) rfl in_X0 0 (by decide) q159 (Or.inl rfl) dX0_note_5 (by first | assumption | exact zu_s _ _ _ | exact zu_o (by assumption) (by assumption) | exact zu_o (by assumption) (zu_o (by assumption) (by assumption)) | exact (zu_o (by first | assumption | exact Ne.symm (by assumption)) (zu_s _ _ _)) | exact (zu_o (by first | assumption | exact Ne.symm (by assumption)) (by assumption)) | exact (zu_o (by first | assumption | exact Ne.symm (by assumption)) (zu_o (by first | assumption | exact Ne.symm (by assumption)) (zu_s _ _ _))) | exact (zu_o (by first | assumption | exact Ne.symm (by assumption)) (zu_o (by first | assumption | exact Ne.symm (by assumption)) (by assumption))) | exact (zu_o (by first | assumption | exact Ne.symm (by assumption)) (zu_o (by first | assumption | exact Ne.symm (by assumption)) (zu_o (by first | assumption | exact Ne.symm (by assumption)) (zu_s _ _ _)))) | exact (zu_o (by first | assumption | exact Ne.symm (by assumption)) (zu_o (by first | assumption | exact Ne.symm (by assumption)) (zu_o (by first | assumption | exact Ne.symm (by assumption)) (by assumption)))) | exact (zu_o (by first | assumption | exact Ne.symm (by assumption)) (zu_o (by first | assumption | exact Ne.symm (by assumption)) (zu_o (by first | assumption | exact Ne.symm (by assumption)) (zu_o (by first | assumption | exact Ne.symm (by assumption)) (zu_s _ _ _))))) | exact (zu_o (by first | assumption | exact Ne.symm (by assumption)) (zu_o (by first | assumption | exact Ne.symm (by assumption)) (zu_o (by first | assumption | exact Ne.symm (by assumption)) (zu_o (by first | assumption | exact Ne.symm (by assumption)) (by assumption))))) | exact AL.at (by assumption) | exact EL.at (by assumption) | exact LL.at (by assumption)) rfl ?_
  refine z_callv (z_runV hX (x_addLast _ _ hLL (by omega)) (cwV 1 hX.ts (lw_V q218 q219 q220 q70 q221) rfl rfl rfl (by decide +kernel) (zroom (by decide) (by decide))) dX0_note_8 (by first | assumption | exact zu_s _ _ _ | exact zu_o (by assumption) (by assumption) | exact zu_o (by assumption) (zu_o (by assumption) (by assumption)) | exact (zu_o (by first | assumption | exact Ne.symm (by assumption)) (zu_s _ _ _)) | exact (zu_o (by first | assumption | exact Ne.symm (by assumption)) (by assumption)) | exact (zu_o (by first | assumption | exact Ne.symm (by assumption)) (zu_o (by first | assumption | exact Ne.symm (by assumption)) (zu_s _ _ _))) | exact (zu_o (by first | assumption | exact Ne.symm (by assumption)) (zu_o (by first | assumption | exact Ne.symm (by assumption)) (by assumption))) | exact (zu_o (by first | assumption | exact Ne.symm (by assumption)) (zu_o (by first | assumption | exact Ne.symm (by assumption)) (zu_o (by first | assumption | exact Ne.symm (by assumption)) (zu_s _ _ _)))) | exact (zu_o (by first | assumption | exact Ne.symm (by assumption)) (zu_o (by first | assumption | exact Ne.symm (by assumption)) (zu_o (by first | assumption | exact Ne.symm (by assumption)) (by assumption)))) | exact (zu_o (by first | assumption | exact Ne.symm (by assumption)) (zu_o (by first | assumption | exact Ne.symm (by assumption)) (zu_o (by first | assumption | exact Ne.symm (by assumption)) (zu_o (by first | assumption | exact Ne.symm (by assumption)) (zu_s _ _ _))))) | exact (zu_o (by first | assumption | exact Ne.symm (by assumption)) (zu_o (by first | assumption | exact Ne.symm (by assumption)) (zu_o (by first | assumption | exact Ne.symm (by assumption)) (zu_o (by first | assumption | exact Ne.symm (by assumption)) (by assumption))))) | exact AL.at (by assumption) | exact EL.at (by assumption) | exact LL.at (by assumption)) (ci := 18) rfl rfl rfl rfl (by first | exact Nat.le_of_ble_eq_true rfl | simp [va_rf_c, Value.category]) (zhf (by omega) (by omega))) (fun μ_8 h_8 => ?_)
  obtain ⟨qn, hqn, hLL1, hfr1⟩ := h_8
  have hk1 : zKk [18, 19] μ μ_8 := hLL.frN hqn hfr1
  have hx1 := hk1.use hx 0 rfl (by decide)
  have hO1 : zO E μ_8 := hO.mono (fun z e hz hk => hk1 z e hz (by rw [hk]; decide))
  obtain ⟨g0, hg1⟩ := hO1.2.1
  obtain ⟨g1, hg2⟩ := hO1.2.2
  have hH1 : HL E μ_8 lo hi it ar cp rs ro := hHL.mono (fun z e hz hk => hk1 z e hz (by rcases hk with q | q | q <;> rw [q] <;> decide))
  have hLL1' : LL μ_8 h lo (hi + 1) (zf ad hi qn) it := hLL1.congr (fun i i0 i1 => by
    by_cases q : i = hi
    · rw [q, zf_s]
    · rw [zf_n q])
  refine z_aload_n hX rfl (by first | rfl | exact va_rf_r _) dX0_note_11 ?_
  refine z_new hX (C := RJ2) (T := TJ2) (N := 3) (ci := 17) rfl in_J2 tyJ2 tyJ2_ok q107 q108 q68 dX0_note_12 (fs := [.int (zI 0), .null, .int (zI 0)]) (by decide) (by omega) (by omega) (fun q_12 f_12 => ?_)
  have hxq := zne hx1 f_12
  have hk2 : zKp μ_8 (zu μ_8 q_12 (zob 17 [.int (zI 0), .null, .int (zI 0)])) := zKp.new f_12 _
  have hE2 := (hH1.1 hi hsz.1 (Int.le_refl _)).mono (fun z e hz _ => hk2 z e hz)
  have hx2 := hk2 _ _ hx1
  refine z_dup hX (by first | rfl | exact va_rf_c _) dX0_note_15 ?_
  refine z_aload_n hX rfl (by first | rfl | exact va_rf_r _) dX0_note_16 ?_
  refine z_get hX (C := RX0) (T := TX0) (N := 8) (ci := 0) rfl in_X0 0 (by decide) q159 (Or.inl rfl) dX0_note_17 (by first | assumption | exact zu_s _ _ _ | exact zu_o (by assumption) (by assumption) | exact zu_o (by assumption) (zu_o (by assumption) (by assumption)) | exact (zu_o (by first | assumption | exact Ne.symm (by assumption)) (zu_s _ _ _)) | exact (zu_o (by first | assumption | exact Ne.symm (by assumption)) (by assumption)) | exact (zu_o (by first | assumption | exact Ne.symm (by assumption)) (zu_o (by first | assumption | exact Ne.symm (by assumption)) (zu_s _ _ _))) | exact (zu_o (by first | assumption | exact Ne.symm (by assumption)) (zu_o (by first | assumption | exact Ne.symm (by assumption)) (by assumption))) | exact (zu_o (by first | assumption | exact Ne.symm (by assumption)) (zu_o (by first | assumption | exact Ne.symm (by assumption)) (zu_o (by first | assumption | exact Ne.symm (by assumption)) (zu_s _ _ _)))) | exact (zu_o (by first | assumption | exact Ne.symm (by assumption)) (zu_o (by first | assumption | exact Ne.symm (by assumption)) (zu_o (by first | assumption | exact Ne.symm (by assumption)) (by assumption)))) | exact (zu_o (by first | assumption | exact Ne.symm (by assumption)) (zu_o (by first | assumption | exact Ne.symm (by assumption)) (zu_o (by first | assumption | exact Ne.symm (by assumption)) (zu_o (by first | assumption | exact Ne.symm (by assumption)) (zu_s _ _ _))))) | exact (zu_o (by first | assumption | exact Ne.symm (by assumption)) (zu_o (by first | assumption | exact Ne.symm (by assumption)) (zu_o (by first | assumption | exact Ne.symm (by assumption)) (zu_o (by first | assumption | exact Ne.symm (by assumption)) (by assumption))))) | exact AL.at (by assumption) | exact EL.at (by assumption) | exact LL.at (by assumption)) rfl ?_
  refine z_callv (z_runI hX (x_alC _ _ hE2.1 q1800 hE2.el (zu_s _ _ _) (hk2 _ _ hg1)) (cwI 1 hX.ts (lw_meth q247) rfl rfl rfl (hX.t q68) (hX.t q245) (hX.t q246) rfl (by decide +kernel) (zroom (by decide) (by decide))) dX0_note_20 rfl rfl rfl (by first | exact Nat.le_of_ble_eq_true rfl | simp [va_rf_c, Value.category]) (zhf (by omega) (by omega))) (fun μ_20 h_20 => ?_)
  obtain ⟨b, hb, hAL3, hfr3⟩ := h_20
  have hk3 : zKp μ_8 μ_20 := fun z e hz => by
    rw [hfr3 z (zne hz f_12) (by rw [hk2 _ _ hz]; simp), hk2 _ _ hz]
  have hb1 : μ_8 b = none ∨ ((rs hi).length = 0 ∧ ∃ g, μ_8 b = some (zaq E 3 0 g)) := by
    rcases hb with hb | ⟨hb, hr⟩
    · exact Or.inl (hk2.no hb)
    · right
      rw [hb, hr]
      exact ⟨rfl, _, hg1⟩
  have hx3 := hk3 _ _ hx1
  have hH3 : HL E μ_20 lo (hi + 1) (zf it (hi + 1) q_12) (zf ar (hi + 1) b) (zf cp (hi + 1) (rs hi).length) (zf rs (hi + 1) (rs hi)) (zf ro (hi + 1) (ro hi)) := by
    refine hH1.push (c := (rs hi).length) (a := ro hi) ?_ f_12 hb1 (fun z e hz _ => hk3 z e hz)
    refine ⟨hAL3, hEL.2.1, hEL.2.2.1, fun i i0 i1 => ?_⟩
    obtain ⟨r, e1, e2⟩ := (hH1.1 hi hsz.1 (Int.le_refl _)).2.2.2 i i0 i1
    exact ⟨r, e1, hk3 _ _ e2⟩
  have hL3 : LL μ_20 h lo (hi + 1) (zf ad hi qn) it := hLL1'.mono (fun z e hz _ => hk3 z e hz)
  have hK3 : zKk [0, 18, 19] μ μ_20 := fun z e hz hn => hk3 z e (hk1 z e hz (fun h => hn (List.mem_cons_of_mem _ h)))
  have hK4 : zKk [0, 18, 19] μ (zu μ_20 x (zx0 q_12 h mk tx tl fo pc hs)) := hK3.at hx (by show (0 : Nat) ∈ [0, 18, 19]; decide) _
  have hk4 : ∀ z e, μ_20 z = some e → kd e ≠ 0 → zu μ_20 x (zx0 q_12 h mk tx tl fo pc hs) z = some e := fun z e hz hn => zu_o (zkne hz hx3 hn) hz
  have hL4 : LL (zu μ_20 x (zx0 q_12 h mk tx tl fo pc hs)) h lo (hi + 1) (zf ad hi qn) (zf it (hi + 1) q_12) := (hL3.mono (fun z e hz hk => hk4 z e hz (by rcases hk with q | q <;> rw [q] <;> decide))).congr (fun i i0 i1 => zf_n (by omega))
  have hH4 := hH3.mono (μ' := zu μ_20 x (zx0 q_12 h mk tx tl fo pc hs)) (fun z e hz hk => hk4 z e hz (by rcases hk with q | q | q <;> rw [q] <;> decide))
  have hO4 : zO E (zu μ_20 x (zx0 q_12 h mk tx tl fo pc hs)) := hO1.mono (fun z e hz hk => hk4 z e (hk3 z e hz) (by rw [hk]; decide))
  have hbz : b ≠ zs E 1 := by
    rcases hb with hb | ⟨hb, -⟩
    · exact fun q => by rw [q, hk2 _ _ hg2] at hb; cases hb
    · rw [hb]; exact hO.1
  have hz4 : ∀ i, lo ≤ i → i ≤ hi + 1 → zf ar (hi + 1) b i ≠ zs E 1 := by
    intro i i0 i1
    by_cases q : i = hi + 1
    · rw [q, zf_s]; exact hbz
    · rw [zf_n q]; exact hz1 i i0 (by omega)
  have hx4 : zu μ_20 x (zx0 q_12 h mk tx tl fo pc hs) x = some (zx0 q_12 h mk tx tl fo pc hs) := zu_s _ _ _
  refine z_put hX (C := RX0) (T := TX0) (N := 8) (ci := 0) rfl in_X0 tyX0 tyX0_ok zn_X0 0 (by decide) q159 (Or.inl rfl) rfl rfl dX0_note_23 (by first | assumption | exact zu_s _ _ _ | exact zu_o (by assumption) (by assumption) | exact zu_o (by assumption) (zu_o (by assumption) (by assumption)) | exact (zu_o (by first | assumption | exact Ne.symm (by assumption)) (zu_s _ _ _)) | exact (zu_o (by first | assumption | exact Ne.symm (by assumption)) (by assumption)) | exact (zu_o (by first | assumption | exact Ne.symm (by assumption)) (zu_o (by first | assumption | exact Ne.symm (by assumption)) (zu_s _ _ _))) | exact (zu_o (by first | assumption | exact Ne.symm (by assumption)) (zu_o (by first | assumption | exact Ne.symm (by assumption)) (by assumption))) | exact (zu_o (by first | assumption | exact Ne.symm (by assumption)) (zu_o (by first | assumption | exact Ne.symm (by assumption)) (zu_o (by first | assumption | exact Ne.symm (by assumption)) (zu_s _ _ _)))) | exact (zu_o (by first | assumption | exact Ne.symm (by assumption)) (zu_o (by first | assumption | exact Ne.symm (by assumption)) (zu_o (by first | assumption | exact Ne.symm (by assumption)) (by assumption)))) | exact (zu_o (by first | assumption | exact Ne.symm (by assumption)) (zu_o (by first | assumption | exact Ne.symm (by assumption)) (zu_o (by first | assumption | exact Ne.symm (by assumption)) (zu_o (by first | assumption | exact Ne.symm (by assumption)) (zu_s _ _ _))))) | exact (zu_o (by first | assumption | exact Ne.symm (by assumption)) (zu_o (by first | assumption | exact Ne.symm (by assumption)) (zu_o (by first | assumption | exact Ne.symm (by assumption)) (zu_o (by first | assumption | exact Ne.symm (by assumption)) (by assumption))))) | exact AL.at (by assumption) | exact EL.at (by assumption) | exact LL.at (by assumption)) (Nat.le_of_ble_eq_true rfl) (by first | rfl | exact znar _ | exact znarb _) (by first | rfl | exact zfit _ | exact zfitb _) rfl ?_
  refine z_aload_n hX rfl (by first | rfl | exact va_rf_r _) dX0_note_26 ?_
  refine z_get hX (C := RX0) (T := TX0) (N := 8) (ci := 0) rfl in_X0 1 (by decide) q161 (Or.inl rfl) dX0_note_27 (by first | assumption | exact zu_s _ _ _ | exact zu_o (by assumption) (by assumption) | exact zu_o (by assumption) (zu_o (by assumption) (by assumption)) | exact (zu_o (by first | assumption | exact Ne.symm (by assumption)) (zu_s _ _ _)) | exact (zu_o (by first | assumption | exact Ne.symm (by assumption)) (by assumption)) | exact (zu_o (by first | assumption | exact Ne.symm (by assumption)) (zu_o (by first | assumption | exact Ne.symm (by assumption)) (zu_s _ _ _))) | exact (zu_o (by first | assumption | exact Ne.symm (by assumption)) (zu_o (by first | assumption | exact Ne.symm (by assumption)) (by assumption))) | exact (zu_o (by first | assumption | exact Ne.symm (by assumption)) (zu_o (by first | assumption | exact Ne.symm (by assumption)) (zu_o (by first | assumption | exact Ne.symm (by assumption)) (zu_s _ _ _)))) | exact (zu_o (by first | assumption | exact Ne.symm (by assumption)) (zu_o (by first | assumption | exact Ne.symm (by assumption)) (zu_o (by first | assumption | exact Ne.symm (by assumption)) (by assumption)))) | exact (zu_o (by first | assumption | exact Ne.symm (by assumption)) (zu_o (by first | assumption | exact Ne.symm (by assumption)) (zu_o (by first | assumption | exact Ne.symm (by assumption)) (zu_o (by first | assumption | exact Ne.symm (by assumption)) (zu_s _ _ _))))) | exact (zu_o (by first | assumption | exact Ne.symm (by assumption)) (zu_o (by first | assumption | exact Ne.symm (by assumption)) (zu_o (by first | assumption | exact Ne.symm (by assumption)) (zu_o (by first | assumption | exact Ne.symm (by assumption)) (by assumption))))) | exact AL.at (by assumption) | exact EL.at (by assumption) | exact LL.at (by assumption)) rfl ?_
  refine z_calli (z_runV hX (x_llS _ _ hL4) (cwV 0 hX.ts (lw_V q313 q314 q315 q70 q316) rfl rfl rfl (by decide +kernel) (zroom (by decide) (by decide))) dX0_note_30 (by first | assumption | exact zu_s _ _ _ | exact zu_o (by assumption) (by assumption) | exact zu_o (by assumption) (zu_o (by assumption) (by assumption)) | exact (zu_o (by first | assumption | exact Ne.symm (by assumption)) (zu_s _ _ _)) | exact (zu_o (by first | assumption | exact Ne.symm (by assumption)) (by assumption)) | exact (zu_o (by first | assumption | exact Ne.symm (by assumption)) (zu_o (by first | assumption | exact Ne.symm (by assumption)) (zu_s _ _ _))) | exact (zu_o (by first | assumption | exact Ne.symm (by assumption)) (zu_o (by first | assumption | exact Ne.symm (by assumption)) (by assumption))) | exact (zu_o (by first | assumption | exact Ne.symm (by assumption)) (zu_o (by first | assumption | exact Ne.symm (by assumption)) (zu_o (by first | assumption | exact Ne.symm (by assumption)) (zu_s _ _ _)))) | exact (zu_o (by first | assumption | exact Ne.symm (by assumption)) (zu_o (by first | assumption | exact Ne.symm (by assumption)) (zu_o (by first | assumption | exact Ne.symm (by assumption)) (by assumption)))) | exact (zu_o (by first | assumption | exact Ne.symm (by assumption)) (zu_o (by first | assumption | exact Ne.symm (by assumption)) (zu_o (by first | assumption | exact Ne.symm (by assumption)) (zu_o (by first | assumption | exact Ne.symm (by assumption)) (zu_s _ _ _))))) | exact (zu_o (by first | assumption | exact Ne.symm (by assumption)) (zu_o (by first | assumption | exact Ne.symm (by assumption)) (zu_o (by first | assumption | exact Ne.symm (by assumption)) (zu_o (by first | assumption | exact Ne.symm (by assumption)) (by assumption))))) | exact AL.at (by assumption) | exact EL.at (by assumption) | exact LL.at (by assumption)) (ci := 18) rfl rfl rfl rfl (by first | exact Nat.le_of_ble_eq_true rfl | simp [va_rf_c, Value.category]) (zhf (by omega) (by omega))) (fun r_30 μ_30 h_30 => ?_)
  obtain ⟨rfl, rfl⟩ := h_30
  refine z_bipush hX (by decide) dX0_note_33 ?_
  refine z_icmp_le hX (by omega) (by omega) dX0_note_35 (tgt := 46) rfl (fun h_35 => ?_) (fun h_35 => ?_)
  · (try rw [← hQ])
    refine z_return hX dX0_note_46 (by omega) (by omega) ?_
    refine ⟨q_12, b, qn, ⟨?_, ?_, ?_, ?_, hO4, ?_⟩, hK4⟩
    · rw [zf_s]; exact hx4
    · rw [if_neg (by omega)]; exact hL4
    · rw [if_neg (by omega)]; exact hH4
    · rw [if_neg (by omega)]; omega
    · rw [if_neg (by omega)]; exact hz4
  · have h12 : hi - lo = 12 := by omega
    refine z_aload_n hX rfl (by first | rfl | exact va_rf_r _) dX0_note_38 ?_
    refine z_get hX (C := RX0) (T := TX0) (N := 8) (ci := 0) rfl in_X0 1 (by decide) q161 (Or.inl rfl) dX0_note_39 (by first | assumption | exact zu_s _ _ _ | exact zu_o (by assumption) (by assumption) | exact zu_o (by assumption) (zu_o (by assumption) (by assumption)) | exact (zu_o (by first | assumption | exact Ne.symm (by assumption)) (zu_s _ _ _)) | exact (zu_o (by first | assumption | exact Ne.symm (by assumption)) (by assumption)) | exact (zu_o (by first | assumption | exact Ne.symm (by assumption)) (zu_o (by first | assumption | exact Ne.symm (by assumption)) (zu_s _ _ _))) | exact (zu_o (by first | assumption | exact Ne.symm (by assumption)) (zu_o (by first | assumption | exact Ne.symm (by assumption)) (by assumption))) | exact (zu_o (by first | assumption | exact Ne.symm (by assumption)) (zu_o (by first | assumption | exact Ne.symm (by assumption)) (zu_o (by first | assumption | exact Ne.symm (by assumption)) (zu_s _ _ _)))) | exact (zu_o (by first | assumption | exact Ne.symm (by assumption)) (zu_o (by first | assumption | exact Ne.symm (by assumption)) (zu_o (by first | assumption | exact Ne.symm (by assumption)) (by assumption)))) | exact (zu_o (by first | assumption | exact Ne.symm (by assumption)) (zu_o (by first | assumption | exact Ne.symm (by assumption)) (zu_o (by first | assumption | exact Ne.symm (by assumption)) (zu_o (by first | assumption | exact Ne.symm (by assumption)) (zu_s _ _ _))))) | exact (zu_o (by first | assumption | exact Ne.symm (by assumption)) (zu_o (by first | assumption | exact Ne.symm (by assumption)) (zu_o (by first | assumption | exact Ne.symm (by assumption)) (zu_o (by first | assumption | exact Ne.symm (by assumption)) (by assumption))))) | exact AL.at (by assumption) | exact EL.at (by assumption) | exact LL.at (by assumption)) rfl ?_
    refine z_callq (z_runV hX (x_removeFirst _ _ hL4 (by omega)) (cwV 0 hX.ts (lw_V q317 q318 q319 q70 q320) rfl rfl rfl (by decide +kernel) (zroom (by decide) (by decide))) dX0_note_42 (by first | assumption | exact zu_s _ _ _ | exact zu_o (by assumption) (by assumption) | exact zu_o (by assumption) (zu_o (by assumption) (by assumption)) | exact (zu_o (by first | assumption | exact Ne.symm (by assumption)) (zu_s _ _ _)) | exact (zu_o (by first | assumption | exact Ne.symm (by assumption)) (by assumption)) | exact (zu_o (by first | assumption | exact Ne.symm (by assumption)) (zu_o (by first | assumption | exact Ne.symm (by assumption)) (zu_s _ _ _))) | exact (zu_o (by first | assumption | exact Ne.symm (by assumption)) (zu_o (by first | assumption | exact Ne.symm (by assumption)) (by assumption))) | exact (zu_o (by first | assumption | exact Ne.symm (by assumption)) (zu_o (by first | assumption | exact Ne.symm (by assumption)) (zu_o (by first | assumption | exact Ne.symm (by assumption)) (zu_s _ _ _)))) | exact (zu_o (by first | assumption | exact Ne.symm (by assumption)) (zu_o (by first | assumption | exact Ne.symm (by assumption)) (zu_o (by first | assumption | exact Ne.symm (by assumption)) (by assumption)))) | exact (zu_o (by first | assumption | exact Ne.symm (by assumption)) (zu_o (by first | assumption | exact Ne.symm (by assumption)) (zu_o (by first | assumption | exact Ne.symm (by assumption)) (zu_o (by first | assumption | exact Ne.symm (by assumption)) (zu_s _ _ _))))) | exact (zu_o (by first | assumption | exact Ne.symm (by assumption)) (zu_o (by first | assumption | exact Ne.symm (by assumption)) (zu_o (by first | assumption | exact Ne.symm (by assumption)) (zu_o (by first | assumption | exact Ne.symm (by assumption)) (by assumption))))) | exact AL.at (by assumption) | exact EL.at (by assumption) | exact LL.at (by assumption)) (ci := 18) rfl rfl rfl rfl (by first | exact Nat.le_of_ble_eq_true rfl | simp [va_rf_c, Value.category]) (zhf (by omega) (by omega))) (fun r_42 μ_42 h_42 => ?_)
    obtain ⟨rfl, hL5, hfr5⟩ := h_42
    refine z_pop hX (by first | rfl | exact va_rf_c _) dX0_note_45 ?_
    (try rw [← hQ])
    refine z_return hX dX0_note_46 (by omega) (by omega) ?_
    have hk5 : zKk [18, 19] (zu μ_20 x (zx0 q_12 h mk tx tl fo pc hs)) μ_42 := hL4.fr hfr5
    refine ⟨q_12, b, qn, ⟨?_, ?_, ?_, ?_, hO4.mono (fun z e hz hk => hk5 z e hz (by rw [hk]; decide)), ?_⟩, ?_⟩
    · rw [zf_s]; exact hk5.use hx4 0 rfl (by decide)
    · rw [if_pos h12]; exact hL5
    · rw [if_pos h12]; exact (hH4.mono (fun z e hz hk => hk5 z e hz (by rcases hk with q | q | q <;> rw [q] <;> decide))).sub (by omega) (by omega)
    · rw [if_pos h12]; omega
    · rw [if_pos h12]; exact fun i i0 i1 => hz4 i (by omega) i1
    · exact hK4.tr (hk5.mono (by decide))
