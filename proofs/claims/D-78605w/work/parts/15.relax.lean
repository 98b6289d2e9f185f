/-! RELAXING edges one after the other, by costs c: plain law -/
def rxE (a c : Int → Int) (x : (Int → Int) × Bool) (e : Int) : (Int → Int) × Bool := if x.1 (a (7 * e)) + c e < x.1 (a (7 * e + 1)) then (zf x.1 (a (7 * e + 1)) (x.1 (a (7 * e)) + c e), true) else x
def rxL (a c : Int → Int) (x : (Int → Int) × Bool) (es : List Int) : (Int → Int) × Bool := es.foldl (rxE a c) x
def rxR (a c : Int → Int) (f : Int → Int) : (Int → Int) × Bool := rxL a c (f, false) (er 0 (a 112))
/-- rounds until nothing changes: what is left, and whether it came to an end -/
def rxN (a c : Int → Int) : Nat → (Int → Int) → (Int → Int) × Bool
  | 0, f => (f, false)
  | k + 1, f => if (rxR a c f).2 = true then rxN a c k (rxR a c f).1 else ((rxR a c f).1, true)
/-- nodes in range -/
def nV (a : Int → Int) : Prop := ∀ e, 0 ≤ e → e < a 112 → (0 ≤ a (7 * e) ∧ a (7 * e) ≤ 7) ∧ (0 ≤ a (7 * e + 1) ∧ a (7 * e + 1) ≤ 7)
/-- the same at the eight nodes -/
def eq8 (f g : Int → Int) : Prop := ∀ v, 0 ≤ v → v ≤ 7 → f v = g v
theorem zf_8 {f g : Int → Int} (h : eq8 f g) {k x y : Int} (hxy : x = y) : eq8 (zf f k x) (zf g k y) := by
  intro v h0 h7
  by_cases e : v = k
  · rw [e, zf_s, zf_s, hxy]
  · rw [zf_n e, zf_n e]; exact h v h0 h7
theorem rxE_8 {a c : Int → Int} (hn : nV a) {x y : (Int → Int) × Bool} (h : eq8 x.1 y.1) (hb : x.2 = y.2) {e : Int} (h0 : 0 ≤ e) (h1 : e < a 112) : eq8 (rxE a c x e).1 (rxE a c y e).1 ∧ (rxE a c x e).2 = (rxE a c y e).2 := by
  obtain ⟨k1, k2⟩ := hn e h0 h1
  unfold rxE
  rw [h _ k1.1 k1.2, h _ k2.1 k2.2]
  split
  · exact ⟨zf_8 h rfl, rfl⟩
  · exact ⟨h, hb⟩
theorem rxL_8 {a c : Int → Int} (hn : nV a) : ∀ (es : List Int) {x y : (Int → Int) × Bool}, (∀ e ∈ es, 0 ≤ e ∧ e < a 112) → eq8 x.1 y.1 → x.2 = y.2 → eq8 (rxL a c x es).1 (rxL a c y es).1 ∧ (rxL a c x es).2 = (rxL a c y es).2
  | [], _, _, _, h, hb => ⟨h, hb⟩
  | e :: es, x, y, hm, h, hb => by
    have h1 := hm e List.mem_cons_self
    have h2 := rxE_8 (c := c) hn h hb h1.1 h1.2
    exact rxL_8 hn es (fun z hz => hm z (List.mem_cons_of_mem _ hz)) h2.1 h2.2
theorem rxR_8 {a c f g : Int → Int} (hn : nV a) (h : eq8 f g) : eq8 (rxR a c f).1 (rxR a c g).1 ∧ (rxR a c f).2 = (rxR a c g).2 := rxL_8 hn _ (fun _ he => er_mem.mp he) h rfl
theorem rxN_8 {a c : Int → Int} (hn : nV a) : ∀ (k : Nat) {f g : Int → Int}, eq8 f g → eq8 (rxN a c k f).1 (rxN a c k g).1 ∧ (rxN a c k f).2 = (rxN a c k g).2
  | 0, _, _, h => ⟨h, rfl⟩
  | k + 1, f, g, h => by
    have h1 := rxR_8 (c := c) hn h
    rw [rxN, rxN, h1.2]
    split
    · exact rxN_8 hn k h1.1
    · exact ⟨h1.1, rfl⟩
/-- the tight edges, as bits -/
def tgL (a c f : Int → Int) (M : Nat) (es : List Int) : Nat := es.foldl (fun M e => if f (a (7 * e)) + c e = f (a (7 * e + 1)) then M ||| 2 ^ e.toNat else M) M
theorem tgL_8 {a c f g : Int → Int} (hn : nV a) (h : eq8 f g) : ∀ (es : List Int) (M : Nat), (∀ e ∈ es, 0 ≤ e ∧ e < a 112) → tgL a c f M es = tgL a c g M es
  | [], _, _ => rfl
  | e :: es, M, hm => by
    have h1 := hm e List.mem_cons_self
    obtain ⟨k1, k2⟩ := hn e h1.1 h1.2
    simp only [tgL, List.foldl_cons]
    rw [h _ k1.1 k1.2, h _ k2.1 k2.2]
    exact tgL_8 hn h es _ (fun z hz => hm z (List.mem_cons_of_mem _ hz))
theorem tgL_lt {a c f : Int → Int} : ∀ (es : List Int) (M : Nat), (∀ e ∈ es, 0 ≤ e ∧ e < 16) → M < 65536 → tgL a c f M es < 65536
  | [], _, _, h => h
  | e :: es, M, hm, h => by
    have h1 := hm e List.mem_cons_self
    simp only [tgL, List.foldl_cons]
    refine tgL_lt es _ (fun z hz => hm z (List.mem_cons_of_mem _ hz)) ?_
    split
    · refine Nat.or_lt_two_pow (n := 16) h ?_
      exact Nat.pow_lt_pow_right (by omega) (by omega)
    · exact h
