/-! ENUMERATION of simple walks, depth first, edges by index: plain law. a: the flat row of edges (7 places an edge: from, to, weight, slope, time, top, bottom); z: the node to come to; T: the nodes that are taken -/
/-- k, k+1, .., n-1 -/
def er (k n : Int) : List Int := (List.range (n - k).toNat).map (fun j : Nat => k + (j : Int))
theorem er_nil {k n : Int} (h : n ≤ k) : er k n = [] := by
  have : (n - k).toNat = 0 := by omega
  simp [er, this]
theorem er_cons {k n : Int} (h : k < n) : er k n = k :: er (k + 1) n := by
  have h1 : (n - k).toNat = (n - (k + 1)).toNat + 1 := by omega
  unfold er
  rw [h1, List.range_succ_eq_map]
  simp only [List.map_cons, List.map_map]
  congr 1
  · simp
  · apply List.map_congr_left
    intro j _
    simp only [Function.comp]
    omega
theorem er_mem {k n e : Int} : e ∈ er k n ↔ k ≤ e ∧ e < n := by
  unfold er
  simp only [List.mem_map, List.mem_range]
  constructor
  · rintro ⟨j, h1, h2⟩
    omega
  · intro h
    exact ⟨(e - k).toNat, by omega, by omega⟩
/-- from k to n, cut at e -/
theorem er_cut {k e n : Int} (h1 : k ≤ e) (h2 : e ≤ n) : er k n = er k e ++ er e n := by
  obtain ⟨c, hc⟩ : ∃ c : Nat, e = k + c := ⟨(e - k).toNat, by omega⟩
  subst hc
  clear h1
  induction c generalizing k with
  | zero => simp [er_nil (show k ≤ k from Int.le_refl k)]
  | succ c ih =>
    rw [er_cons (show k < n by omega), er_cons (show k < k + ((c + 1 : Nat) : Int) by omega)]
    have h := ih (k := k + 1) (by omega)
    rw [show k + ((c + 1 : Nat) : Int) = k + 1 + (c : Int) by omega]
    rw [h, List.cons_append]
theorem er_len (k n : Int) : (er k n).length = (n - k).toNat := by simp [er]
def gok (a : Int → Int) (z : Int) (T : Int → Bool) (v e : Int) : Bool := decide (a (7 * e) = v) && (decide (a (7 * e + 1) = z) || !T (a (7 * e + 1)))
theorem gok_iff {a : Int → Int} {z : Int} {T : Int → Bool} {v e : Int} : gok a z T v e = true ↔ a (7 * e) = v ∧ (a (7 * e + 1) = z ∨ T (a (7 * e + 1)) = false) := by simp [gok]
def gtk (T : Int → Bool) (w : Int) : Int → Bool := fun x => T x || decide (x = w)
/-- one edge's walks, the deeper ones being given -/
def gI (a : Int → Int) (z : Int) (f : (Int → Bool) → Int → List (List Int)) (T : Int → Bool) (v e : Int) : List (List Int) :=
  if gok a z T v e = true then (if a (7 * e + 1) = z then [[e]] else (f (gtk T (a (7 * e + 1))) (a (7 * e + 1))).map (e :: ·)) else []
def gD (a : Int → Int) (z : Int) (es : List Int) : Nat → (Int → Bool) → Int → List (List Int)
  | 0, _, _ => []
  | d + 1, T, v => es.flatMap (gI a z (gD a z es d) T v)
def gS (a : Int → Int) (z : Int) (es : List Int) (d : Nat) (T : Int → Bool) (v : Int) (ks : List Int) : List (List Int) := ks.flatMap (gI a z (gD a z es d) T v)
theorem gD_S (a : Int → Int) (z : Int) (es : List Int) (d : Nat) (T : Int → Bool) (v : Int) : gD a z es (d + 1) T v = gS a z es d T v es := rfl
theorem gS_nil (a : Int → Int) (z : Int) (es : List Int) (d : Nat) (T : Int → Bool) (v : Int) : gS a z es d T v [] = [] := rfl
theorem gS_cons (a : Int → Int) (z : Int) (es : List Int) (d : Nat) (T : Int → Bool) (v e : Int) (ks : List Int) : gS a z es d T v (e :: ks) = gI a z (gD a z es d) T v e ++ gS a z es d T v ks := rfl
theorem gS_app (a : Int → Int) (z : Int) (es : List Int) (d : Nat) (T : Int → Bool) (v : Int) (k1 k2 : List Int) : gS a z es d T v (k1 ++ k2) = gS a z es d T v k1 ++ gS a z es d T v k2 := by simp [gS, List.flatMap_append]
theorem gS_none {a : Int → Int} {z : Int} {es : List Int} {d : Nat} {T : Int → Bool} {v : Int} {ks : List Int} (h : ∀ e ∈ ks, gok a z T v e = false) : gS a z es d T v ks = [] := by
  unfold gS
  rw [List.flatMap_eq_nil_iff]
  intro e he
  simp [gI, h e he]
/-- the first fitting edge behind k -/
theorem gS_first {a : Int → Int} {z : Int} {es : List Int} {d : Nat} {T : Int → Bool} {v k e n : Int} (h1 : k ≤ e) (h2 : e < n) (h : ∀ j, k ≤ j → j < e → gok a z T v j = false) : gS a z es d T v (er k n) = gI a z (gD a z es d) T v e ++ gS a z es d T v (er (e + 1) n) := by
  rw [er_cut h1 (Int.le_of_lt h2), gS_app, gS_none (fun j hj => h j (er_mem.mp hj).1 (er_mem.mp hj).2), List.nil_append, er_cons h2, gS_cons]
/-- how many turns a search takes -/
def gwI (a : Int → Int) (z : Int) (f : (Int → Bool) → Int → Nat) (T : Int → Bool) (v e : Int) : Nat :=
  if gok a z T v e = true then (if a (7 * e + 1) = z then 1 else 1 + f (gtk T (a (7 * e + 1))) (a (7 * e + 1))) else 0
def gwD (a : Int → Int) (z : Int) (es : List Int) : Nat → (Int → Bool) → Int → Nat
  | 0, _, _ => 1
  | d + 1, T, v => (es.map (gwI a z (gwD a z es d) T v)).sum + 1
def gwS (a : Int → Int) (z : Int) (es : List Int) (d : Nat) (T : Int → Bool) (v : Int) (ks : List Int) : Nat := (ks.map (gwI a z (gwD a z es d) T v)).sum + 1
theorem gwS_none {a : Int → Int} {z : Int} {es : List Int} {d : Nat} {T : Int → Bool} {v : Int} {ks : List Int} (h : ∀ e ∈ ks, gok a z T v e = false) : gwS a z es d T v ks = 1 := by
  unfold gwS
  induction ks with
  | nil => rfl
  | cons e ks ih =>
    have h1 := ih (fun x hx => h x (List.mem_cons_of_mem _ hx))
    have h2 : gwI a z (gwD a z es d) T v e = 0 := by simp [gwI, h e List.mem_cons_self]
    simp only [List.map_cons, List.sum_cons]
    omega
theorem gwS_app {a : Int → Int} {z : Int} {es : List Int} {d : Nat} {T : Int → Bool} {v : Int} {k1 k2 : List Int} : gwS a z es d T v (k1 ++ k2) + 1 = gwS a z es d T v k1 + gwS a z es d T v k2 := by
  simp [gwS, List.sum_append]
  omega
theorem gwS_first {a : Int → Int} {z : Int} {es : List Int} {d : Nat} {T : Int → Bool} {v k e n : Int} (h1 : k ≤ e) (h2 : e < n) (h : ∀ j, k ≤ j → j < e → gok a z T v j = false) : gwS a z es d T v (er k n) = gwI a z (gwD a z es d) T v e + gwS a z es d T v (er (e + 1) n) := by
  have h3 := gwS_app (a := a) (z := z) (es := es) (d := d) (T := T) (v := v) (k1 := er k e) (k2 := er e n)
  rw [← er_cut h1 (Int.le_of_lt h2), gwS_none (fun j hj => h j (er_mem.mp hj).1 (er_mem.mp hj).2)] at h3
  have h4 : gwS a z es d T v (er e n) = gwI a z (gwD a z es d) T v e + gwS a z es d T v (er (e + 1) n) := by
    rw [er_cons h2]
    simp only [gwS, List.map_cons, List.sum_cons]
    omega
  omega
/-- how many of the eight nodes are free -/
def gu (T : Int → Bool) : Nat := ((er 0 8).filter (fun v => !T v)).length
theorem gu_le (T : Int → Bool) : gu T ≤ 8 := by
  have h := List.length_filter_le (fun v => !T v) (er 0 8)
  rw [er_len] at h
  exact h
theorem count_upd (l : List Int) (T : Int → Bool) (w : Int) (hn : l.Nodup) (hw : w ∈ l) (hT : T w = false) : (l.filter (fun v => !(gtk T w) v)).length + 1 = (l.filter (fun v => !T v)).length := by
  induction l with
  | nil => cases hw
  | cons x l ih =>
    have hx := (List.nodup_cons.mp hn).1
    have hn2 := (List.nodup_cons.mp hn).2
    by_cases e : x = w
    · subst e
      have h1 : l.filter (fun v => !(gtk T x) v) = l.filter (fun v => !T v) := by
        apply List.filter_congr
        intro v hv
        have : v ≠ x := fun q => hx (q ▸ hv)
        simp [gtk, this]
      rw [List.filter_cons, List.filter_cons, h1]
      simp [gtk, hT]
    · have hw2 : w ∈ l := by
        rcases List.mem_cons.mp hw with q | q
        · exact absurd q.symm e
        · exact q
      have h1 := ih hn2 hw2
      rw [List.filter_cons, List.filter_cons]
      have h2 : (gtk T w) x = T x := by simp [gtk, e]
      rw [h2]
      split
      · simp only [List.length_cons]; omega
      · exact h1
theorem er_nodup (k n : Int) : (er k n).Nodup := by
  unfold er
  exact List.Pairwise.map _ (fun x y h => by omega) List.nodup_range
theorem gu_push {T : Int → Bool} {w : Int} (h0 : 0 ≤ w) (h8 : w < 8) (hT : T w = false) : gu (gtk T w) + 1 = gu T := count_upd (er 0 8) T w (er_nodup 0 8) (er_mem.mpr ⟨h0, h8⟩) hT
theorem gu_taken {T : Int → Bool} {w : Int} (h0 : 0 ≤ w) (h8 : w < 8) (hT : T w = true) : gu T ≤ 7 := by
  have h1 : ((er 0 8).filter (fun v => !T v)).length < (er 0 8).length := by
    rw [List.length_filter_lt_length_iff_exists]
    exact ⟨w, er_mem.mpr ⟨h0, h8⟩, by simp [hT]⟩
  rw [er_len] at h1
  have : gu T < 8 := h1
  omega
/-- the frames of a walk, the last edge first: the edge, what was taken before it, the node that it leaves -/
abbrev gF : Type := Int × (Int → Bool) × Int
def gpre (fs : List gF) : List Int := (fs.map (·.1)).reverse
/-- what is still to come when the frames are taken back -/
def gR (a : Int → Int) (z n : Int) : List gF → List (List Int)
  | [] => []
  | (e, T, v) :: fs => (gS a z (er 0 n) (7 - fs.length) T v (er (e + 1) n)).map (gpre fs ++ ·) ++ gR a z n fs
def gwR (a : Int → Int) (z n : Int) : List gF → Nat
  | [] => 1
  | (e, T, v) :: fs => gwS a z (er 0 n) (7 - fs.length) T v (er (e + 1) n) + gwR a z n fs
theorem gpre_cons (e : Int) (T : Int → Bool) (v : Int) (fs : List gF) : gpre ((e, T, v) :: fs) = gpre fs ++ [e] := by simp [gpre]
theorem gpre_len (fs : List gF) : (gpre fs).length = fs.length := by simp [gpre]
/-- a fitting edge that closes: it is the next answer -/
theorem gR_close {a : Int → Int} {z n k e v : Int} {T : Int → Bool} {fs : List gF} (h1 : k ≤ e) (h2 : e < n) (h : ∀ j, k ≤ j → j < e → gok a z T v j = false) (hk : gok a z T v e = true) (hz : a (7 * e + 1) = z) :
    (gS a z (er 0 n) (7 - fs.length) T v (er k n)).map (gpre fs ++ ·) ++ gR a z n fs = gpre ((e, T, v) :: fs) :: gR a z n ((e, T, v) :: fs) := by
  rw [gS_first h1 h2 h, gI, if_pos hk, if_pos hz, gpre_cons]
  simp [gR]
/-- a fitting edge that leads on: the search goes on behind it -/
theorem gR_on {a : Int → Int} {z n k e v : Int} {T : Int → Bool} {fs : List gF} (h1 : k ≤ e) (h2 : e < n) (h : ∀ j, k ≤ j → j < e → gok a z T v j = false) (hk : gok a z T v e = true) (hz : ¬ a (7 * e + 1) = z) (hl : fs.length ≤ 6) :
    (gS a z (er 0 n) (7 - fs.length) T v (er k n)).map (gpre fs ++ ·) ++ gR a z n fs = (gS a z (er 0 n) (7 - ((e, T, v) :: fs).length) (gtk T (a (7 * e + 1))) (a (7 * e + 1)) (er 0 n)).map (gpre ((e, T, v) :: fs) ++ ·) ++ gR a z n ((e, T, v) :: fs) := by
  rw [gS_first h1 h2 h, gI, if_pos hk, if_neg hz, gpre_cons]
  have h3 : 7 - fs.length = (7 - ((e, T, v) :: fs).length) + 1 := by simp only [List.length_cons]; omega
  rw [show gD a z (er 0 n) (7 - fs.length) (gtk T (a (7 * e + 1))) (a (7 * e + 1)) = gS a z (er 0 n) (7 - ((e, T, v) :: fs).length) (gtk T (a (7 * e + 1))) (a (7 * e + 1)) (er 0 n) by rw [h3, gD_S]]
  simp [gR, List.map_map, Function.comp_def]
theorem gR_no {a : Int → Int} {z n k v : Int} {T : Int → Bool} {fs : List gF} (h : ∀ j, k ≤ j → j < n → gok a z T v j = false) :
    (gS a z (er 0 n) (7 - fs.length) T v (er k n)).map (gpre fs ++ ·) ++ gR a z n fs = gR a z n fs := by
  rw [gS_none (fun j hj => h j (er_mem.mp hj).1 (er_mem.mp hj).2)]
  rfl
theorem gwR_close {a : Int → Int} {z n k e v : Int} {T : Int → Bool} {fs : List gF} (h1 : k ≤ e) (h2 : e < n) (h : ∀ j, k ≤ j → j < e → gok a z T v j = false) (hk : gok a z T v e = true) (hz : a (7 * e + 1) = z) :
    gwS a z (er 0 n) (7 - fs.length) T v (er k n) + gwR a z n fs = 1 + gwR a z n ((e, T, v) :: fs) := by
  rw [gwS_first h1 h2 h, gwI, if_pos hk, if_pos hz, gwR]
  omega
theorem gwR_on {a : Int → Int} {z n k e v : Int} {T : Int → Bool} {fs : List gF} (h1 : k ≤ e) (h2 : e < n) (h : ∀ j, k ≤ j → j < e → gok a z T v j = false) (hk : gok a z T v e = true) (hz : ¬ a (7 * e + 1) = z) (hl : fs.length ≤ 6) :
    gwS a z (er 0 n) (7 - fs.length) T v (er k n) + gwR a z n fs = 1 + (gwS a z (er 0 n) (7 - ((e, T, v) :: fs).length) (gtk T (a (7 * e + 1))) (a (7 * e + 1)) (er 0 n) + gwR a z n ((e, T, v) :: fs)) := by
  rw [gwS_first h1 h2 h, gwI, if_pos hk, if_neg hz]
  have h3 : 7 - fs.length = (7 - ((e, T, v) :: fs).length) + 1 := by simp only [List.length_cons]; omega
  rw [show gwD a z (er 0 n) (7 - fs.length) (gtk T (a (7 * e + 1))) (a (7 * e + 1)) = gwS a z (er 0 n) (7 - ((e, T, v) :: fs).length) (gtk T (a (7 * e + 1))) (a (7 * e + 1)) (er 0 n) by rw [h3]; rfl]
  rw [gwR]
  omega
theorem gwR_pos (a : Int → Int) (z n : Int) (fs : List gF) : 1 ≤ gwR a z n fs := by
  cases fs with
  | nil => exact Nat.le_refl 1
  | cons f fs =>
    obtain ⟨e, T, v⟩ := f
    unfold gwR gwS
    omega
theorem gwR_no {a : Int → Int} {z n k v : Int} {T : Int → Bool} {fs : List gF} (h : ∀ j, k ≤ j → j < n → gok a z T v j = false) :
    gwS a z (er 0 n) (7 - fs.length) T v (er k n) + gwR a z n fs = 1 + gwR a z n fs := by
  rw [gwS_none (fun j hj => h j (er_mem.mp hj).1 (er_mem.mp hj).2)]
/-- what is taken, and the node, behind frames -/
def cT (a : Int → Int) (z : Int) (T0 : Int → Bool) : List gF → (Int → Bool)
  | [] => T0
  | (e, T, _) :: _ => if a (7 * e + 1) = z then T else gtk T (a (7 * e + 1))
def cV (a : Int → Int) (f : Int) : List gF → Int
  | [] => f
  | (e, _, _) :: _ => a (7 * e + 1)
/-- the last edge doesn't close -/
def cO (a : Int → Int) (z : Int) : List gF → Prop
  | [] => True
  | (e, _, _) :: _ => ¬ a (7 * e + 1) = z
/-- the frames are those of a walk -/
def FV (a : Int → Int) (z n f : Int) (T0 : Int → Bool) : List gF → Prop
  | [] => True
  | (e, T, v) :: fs => T = cT a z T0 fs ∧ v = cV a f fs ∧ cO a z fs ∧ (0 ≤ e ∧ e < n) ∧ gok a z T v e = true ∧ FV a z n f T0 fs
/-- the row of edges holds the frames' edges -/
def wk (w : Int → Int) : List gF → Prop
  | [] => True
  | (e, _, _) :: fs => w (fs.length : Int) = e ∧ wk w fs
theorem wk_far {w : Int → Int} {k e : Int} : ∀ {fs : List gF}, wk w fs → (fs.length : Int) ≤ k → wk (zf w k e) fs
  | [], _, _ => trivial
  | (e', T, v) :: fs, h, hk => by
    simp only [List.length_cons] at hk
    refine ⟨?_, wk_far h.2 (by omega)⟩
    rw [zf_n (by omega)]
    exact h.1
theorem FV_u {a : Int → Int} {z n f : Int} {T0 : Int → Bool} (ha : ∀ e, 0 ≤ e → e < n → 0 ≤ a (7 * e + 1) ∧ a (7 * e + 1) < 8) (hu : gu T0 ≤ 7) : ∀ {fs : List gF}, FV a z n f T0 fs → cO a z fs → fs.length + gu (cT a z T0 fs) ≤ 7
  | [], _, _ => by simpa [cT] using hu
  | (e, T, v) :: fs, h, ho => by
    obtain ⟨h1, h2, h3, h4, h5, h6⟩ := h
    have ih := FV_u ha hu h6 h3
    rw [← h1] at ih
    have hr := ha e h4.1 h4.2
    have ho' : ¬ a (7 * e + 1) = z := ho
    rw [gok_iff] at h5
    have hT : T (a (7 * e + 1)) = false := by
      rcases h5.2 with q | q
      · exact absurd q ho'
      · exact q
    have h7 := gu_push hr.1 hr.2 hT
    rw [cT, if_neg ho']
    simp only [List.length_cons]
    omega
