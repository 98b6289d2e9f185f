/-! HOW MANY simple walks there are: plain law -/
def dgE (a : Int → Int) (es : List Int) (u : Int) : Nat := (es.filter (fun e => decide (a (7 * e) = u))).length
def max1 (d : Nat) : Nat := if d = 0 then 1 else d
theorem max1_le (d : Nat) : d ≤ max1 d := by unfold max1; split <;> omega
theorem max1_1 (d : Nat) : 1 ≤ max1 d := by unfold max1; split <;> omega
def prT (a : Int → Int) (es : List Int) (T : Int → Bool) (us : List Int) : Nat := (us.map (fun u => if T u = true then 1 else max1 (dgE a es u))).foldr (· * ·) 1
theorem prT_1 (a : Int → Int) (es : List Int) (T : Int → Bool) : ∀ us, 1 ≤ prT a es T us
  | [] => Nat.le_refl _
  | u :: us => by
    have h := prT_1 a es T us
    have h2 : 1 ≤ (if T u = true then 1 else max1 (dgE a es u)) := by
      split
      · exact Nat.le_refl _
      · exact max1_1 _
    exact Nat.mul_le_mul h2 h
theorem prT_same (a : Int → Int) (es : List Int) {T S : Int → Bool} : ∀ us, (∀ u ∈ us, T u = S u) → prT a es T us = prT a es S us
  | [], _ => rfl
  | u :: us, h => by
    have h2 := prT_same a es us (fun x hx => h x (List.mem_cons_of_mem _ hx))
    unfold prT at h2 ⊢
    simp only [List.map_cons, List.foldr_cons]
    rw [h2, h u List.mem_cons_self]
theorem prT_take (a : Int → Int) (es : List Int) {T : Int → Bool} {w : Int} (hT : T w = false) : ∀ us : List Int, us.Nodup → w ∈ us → max1 (dgE a es w) * prT a es (gtk T w) us = prT a es T us
  | [], _, h => by cases h
  | u :: us, hn, hw => by
    have hx := (List.nodup_cons.mp hn).1
    have hn2 := (List.nodup_cons.mp hn).2
    by_cases e : u = w
    · subst e
      have h1 := prT_same a es (T := gtk T u) (S := T) us (fun x hxu => by
        have : x ≠ u := fun q => hx (q ▸ hxu)
        simp [gtk, this])
      unfold prT at h1 ⊢
      simp only [List.map_cons, List.foldr_cons]
      rw [h1]
      simp [gtk, hT]
    · have hw2 : w ∈ us := by
        rcases List.mem_cons.mp hw with q | q
        · exact absurd q.symm e
        · exact q
      have h1 := prT_take a es hT us hn2 hw2
      unfold prT at h1 ⊢
      simp only [List.map_cons, List.foldr_cons]
      have h2 : (gtk T w) u = T u := by simp [gtk, e]
      rw [h2, ← h1, Nat.mul_left_comm]
theorem flen_le {α : Type} (p : Int → Bool) (f : Int → List α) (B : Nat) : ∀ es : List Int, (∀ e ∈ es, (f e).length ≤ if p e = true then B else 0) → (es.flatMap f).length ≤ (es.filter p).length * B
  | [], _ => by simp
  | e :: es, h => by
    have h1 := flen_le p f B es (fun x hx => h x (List.mem_cons_of_mem _ hx))
    have h2 := h e List.mem_cons_self
    rw [List.flatMap_cons, List.length_append, List.filter_cons]
    split at h2
    · rename_i hp
      rw [if_pos hp, List.length_cons, Nat.succ_mul]
      omega
    · rename_i hp
      rw [if_neg hp]
      omega
theorem gD_cnt {a : Int → Int} {z : Int} {es : List Int} (he : ∀ e ∈ es, 0 ≤ a (7 * e + 1) ∧ a (7 * e + 1) < 8) : ∀ (d : Nat) (T : Int → Bool) (v : Int), (gD a z es d T v).length ≤ dgE a es v * prT a es T (er 0 8)
  | 0, _, _ => by simp [gD]
  | d + 1, T, v => by
    unfold gD dgE
    refine flen_le _ _ _ es (fun e hm => ?_)
    have h1 := prT_1 a es T (er 0 8)
    unfold gI
    by_cases hk : gok a z T v e = true
    · rw [if_pos hk]
      rw [gok_iff] at hk
      rw [if_pos (show decide (a (7 * e) = v) = true by simpa using hk.1)]
      split
      · exact h1
      · rename_i hz
        rw [List.length_map]
        have h3 := he e hm
        have hTw : T (a (7 * e + 1)) = false := by
          rcases hk.2 with h | h
          · exact absurd h hz
          · exact h
        have h2 := gD_cnt (z := z) he d (gtk T (a (7 * e + 1))) (a (7 * e + 1))
        have h4 := prT_take a es hTw (er 0 8) (er_nodup 0 8) (er_mem.mpr h3)
        rw [← h4]
        exact Nat.le_trans h2 (Nat.mul_le_mul_right _ (max1_le _))
    · rw [if_neg hk]
      exact Nat.zero_le _
/-- the product of a row of degrees; the sum of the products behind each -/
def dP : List Nat → Nat
  | [] => 1
  | d :: l => max1 d * dP l
def dG : List Nat → Nat
  | [] => 0
  | d :: l => d * dP l + dG l
def tPt : List (List Nat) := [[1, 1, 1, 1, 1, 1, 1, 1, 1, 1, 1, 1, 1, 1, 1, 1, 1], [1, 1, 2, 3, 4, 5, 6, 7, 8, 9, 10, 11, 12, 13, 14, 15, 16], [1, 1, 2, 3, 4, 6, 9, 12, 16, 20, 25, 30, 36, 42, 49, 56, 64], [1, 1, 2, 3, 4, 6, 9, 12, 18, 27, 36, 48, 64, 80, 100, 125, 150], [1, 1, 2, 3, 4, 6, 9, 12, 18, 27, 36, 54, 81, 108, 144, 192, 256], [1, 1, 2, 3, 4, 6, 9, 12, 18, 27, 36, 54, 81, 108, 162, 243, 324], [1, 1, 2, 3, 4, 6, 9, 12, 18, 27, 36, 54, 81, 108, 162, 243, 324], [1, 1, 2, 3, 4, 6, 9, 12, 18, 27, 36, 54, 81, 108, 162, 243, 324], [1, 1, 2, 3, 4, 6, 9, 12, 18, 27, 36, 54, 81, 108, 162, 243, 324]]
def tGt : List (List Nat) := [[0, 0, 0, 0, 0, 0, 0, 0, 0, 0, 0, 0, 0, 0, 0, 0, 0], [0, 1, 2, 3, 4, 5, 6, 7, 8, 9, 10, 11, 12, 13, 14, 15, 16], [0, 1, 2, 4, 6, 9, 12, 16, 20, 25, 30, 36, 42, 49, 56, 64, 72], [0, 1, 2, 4, 7, 10, 15, 21, 30, 40, 52, 68, 85, 105, 130, 156, 186], [0, 1, 2, 4, 7, 11, 16, 24, 33, 48, 67, 94, 124, 164, 213, 277, 345], [0, 1, 2, 4, 7, 11, 17, 25, 36, 51, 75, 103, 148, 205, 286, 380, 501], [0, 1, 2, 4, 7, 11, 17, 26, 37, 54, 78, 111, 157, 229, 313, 448, 623], [0, 1, 2, 4, 7, 11, 17, 26, 38, 55, 81, 114, 165, 238, 337, 475, 691], [0, 1, 2, 4, 7, 11, 17, 26, 38, 56, 82, 117, 168, 246, 346, 499, 718]]
def tPn (n m : Nat) : Nat := (tPt.getD n []).getD m 0
def tGn (n m : Nat) : Nat := (tGt.getD n []).getD m 0
theorem tPn_0 : ∀ m, m < 17 → tPn 0 m = 1 := by decide +kernel
theorem tPn_s : ∀ n, n < 8 → ∀ m, m < 17 → ∀ d, d < 17 → d ≤ m → max1 d * tPn n (m - d) ≤ tPn (n + 1) m := by decide +kernel
theorem tGn_s : ∀ n, n < 8 → ∀ m, m < 17 → ∀ d, d < 17 → d ≤ m → d * tPn n (m - d) + tGn n (m - d) ≤ tGn (n + 1) m := by decide +kernel
theorem dP_le : ∀ (l : List Nat) (m : Nat), m < 17 → l.length ≤ 8 → l.sum ≤ m → dP l ≤ tPn l.length m
  | [], m, hm, _, _ => by rw [List.length_nil, tPn_0 m hm]; exact Nat.le_refl _
  | d :: l, m, hm, hl, h => by
    rw [List.sum_cons] at h
    rw [List.length_cons] at hl
    have h1 := dP_le l (m - d) (by omega) (by omega) (by omega)
    exact Nat.le_trans (Nat.mul_le_mul_left _ h1) (tPn_s l.length (by omega) m hm d (by omega) (by omega))
theorem dG_le : ∀ (l : List Nat) (m : Nat), m < 17 → l.length ≤ 8 → l.sum ≤ m → dG l ≤ tGn l.length m
  | [], m, hm, _, _ => Nat.zero_le _
  | d :: l, m, hm, hl, h => by
    rw [List.sum_cons] at h
    rw [List.length_cons] at hl
    have h1 := dP_le l (m - d) (by omega) (by omega) (by omega)
    have h2 := dG_le l (m - d) (by omega) (by omega) (by omega)
    exact Nat.le_trans (Nat.add_le_add (Nat.mul_le_mul_left _ h1) h2) (tGn_s l.length (by omega) m hm d (by omega) (by omega))
/-- the walks of all starts k .. 7, the nodes below being shut -/
theorem gC_dG {a : Int → Int} {es : List Int} (he : ∀ e ∈ es, 0 ≤ a (7 * e + 1) ∧ a (7 * e + 1) < 8) : ∀ (n : Nat) (k : Int), 0 ≤ k → k + n = 8 → ((er k 8).flatMap (fun s => gD a s es 8 (fun v => decide (v ≤ s)) s)).length ≤ dG ((er k 8).map (dgE a es)) ∧ prT a es (fun v => decide (v < k)) (er 0 8) = dP ((er k 8).map (dgE a es))
  | 0, k, h0, h => by
    obtain rfl : k = 8 := by omega
    refine ⟨by simp [er_nil, dG], ?_⟩
    rw [er_nil (Int.le_refl _)]
    show prT a es _ (er 0 8) = 1
    have : ∀ us : List Int, (∀ u ∈ us, u < 8) → prT a es (fun v => decide (v < 8)) us = 1 := by
      intro us
      induction us with
      | nil => intro _; rfl
      | cons u us ih =>
        intro hu
        have h1 := ih (fun x hx => hu x (List.mem_cons_of_mem _ hx))
        unfold prT at h1 ⊢
        rw [List.map_cons, List.foldr_cons, h1, if_pos (by simpa using hu u List.mem_cons_self)]
    exact this _ (fun u hu => (er_mem.mp hu).2)
  | n + 1, k, h0, h => by
    obtain ⟨h1, h2⟩ := gC_dG he n (k + 1) (by omega) (by omega)
    have h3 : prT a es (fun v => decide (v ≤ k)) (er 0 8) = prT a es (fun v => decide (v < k + 1)) (er 0 8) := by
      refine prT_same a es _ (fun u _ => ?_)
      by_cases q : u ≤ k
      · rw [decide_eq_true q, decide_eq_true (by omega)]
      · rw [decide_eq_false q, decide_eq_false (by omega)]
    have h4 := gD_cnt (z := k) he 8 (fun v => decide (v ≤ k)) k
    have h5 : prT a es (fun v => decide (v < k)) (er 0 8) = max1 (dgE a es k) * prT a es (fun v => decide (v < k + 1)) (er 0 8) := by
      rw [← prT_take a es (T := fun v => decide (v < k)) (w := k) (by simp) (er 0 8) (er_nodup 0 8) (er_mem.mpr ⟨h0, by omega⟩)]
      congr 1
      refine prT_same a es _ (fun u _ => ?_)
      show (decide (u < k) || decide (u = k)) = decide (u < k + 1)
      by_cases q : u < k + 1
      · rw [decide_eq_true q]
        by_cases q2 : u = k
        · rw [decide_eq_true q2, Bool.or_true]
        · rw [decide_eq_true (show u < k by omega), Bool.true_or]
      · rw [decide_eq_false q, decide_eq_false (show ¬ u < k by omega), decide_eq_false (show ¬ u = k by omega)]; rfl
    rw [er_cons (show k < 8 by omega), List.map_cons, List.flatMap_cons, List.length_append]
    refine ⟨?_, ?_⟩
    · rw [dG, ← h2, ← h3]
      exact Nat.add_le_add h4 h1
    · rw [dP, h5, h2]
theorem dgE_sum (a : Int → Int) : ∀ (es us : List Int), us.Nodup → (us.map (dgE a es)).sum ≤ es.length
  | [], us, _ => by
    have : us.map (dgE a []) = us.map (fun _ => 0) := rfl
    rw [this]
    induction us with
    | nil => simp
    | cons u us ih => simp_all
  | e :: es, us, hn => by
    have h := dgE_sum a es us hn
    have h2 : ∀ us : List Int, us.Nodup → (us.map (dgE a (e :: es))).sum ≤ (us.map (dgE a es)).sum + (if a (7 * e) ∈ us then 1 else 0) := by
      intro us
      induction us with
      | nil => intro _; simp
      | cons u us ih =>
        intro hn
        have hx := (List.nodup_cons.mp hn).1
        have h3 := ih (List.nodup_cons.mp hn).2
        rw [List.map_cons, List.sum_cons, List.map_cons, List.sum_cons]
        have h4 : dgE a (e :: es) u = dgE a es u + (if a (7 * e) = u then 1 else 0) := by
          unfold dgE
          rw [List.filter_cons]
          by_cases q : a (7 * e) = u
          · rw [if_pos (by simpa using q), if_pos q, List.length_cons]
          · rw [if_neg (by simpa using q), if_neg q]; rfl
        rw [h4]
        by_cases q : a (7 * e) = u
        · rw [if_pos q, if_pos (by rw [q]; exact List.mem_cons_self)]
          rw [if_neg (by rw [q]; exact hx)] at h3
          omega
        · rw [if_neg q]
          by_cases q2 : a (7 * e) ∈ us
          · rw [if_pos q2] at h3
            rw [if_pos (List.mem_cons_of_mem _ q2)]
            omega
          · rw [if_neg q2] at h3
            omega
    have h3 := h2 us hn
    rw [List.length_cons]
    split at h3 <;> omega
theorem gC_cnt {a : Int → Int} {es : List Int} (he : ∀ e ∈ es, 0 ≤ a (7 * e + 1) ∧ a (7 * e + 1) < 8) (hl : es.length ≤ 16) : ((er 0 8).flatMap (fun s => gD a s es 8 (fun v => decide (v ≤ s)) s)).length ≤ 718 := by
  have h := (gC_dG he 8 0 (by omega) (by omega)).1
  have h2 := dG_le ((er 0 8).map (dgE a es)) 16 (by omega) (by rw [List.length_map, er_len]; decide) (Nat.le_trans (dgE_sum a es _ (er_nodup 0 8)) hl)
  rw [List.length_map, er_len] at h2
  have h3 : tGn (8 - 0 : Int).toNat 16 = 718 := by decide +kernel
  omega
