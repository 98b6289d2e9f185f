/-! MODEL 5: what a search weighs -/
set_option maxRecDepth 100000
/-- but for these places the same -/
def sag {α : Type} (ks : List Nat) (f g : Nat → α) : Prop := ∀ k, k ∉ ks → g k = f k
theorem sag.rf {α : Type} {ks : List Nat} {f : Nat → α} : sag ks f f := fun _ _ => rfl
theorem sag.tr {α : Type} {k1 k2 ks : List Nat} {f g h : Nat → α} (h1 : sag k1 f g) (h2 : sag k2 g h) (hs : ∀ k, k ∉ ks → k ∉ k1 ∧ k ∉ k2) : sag ks f h := fun k hk => (h2 k (hs k hk).2).trans (h1 k (hs k hk).1)
theorem sag.mono {α : Type} {k1 ks : List Nat} {f g : Nat → α} (h1 : sag k1 f g) (hs : ∀ k, k ∉ ks → k ∉ k1) : sag ks f g := fun k hk => h1 k (hs k hk)
theorem sag.up {α : Type} {ks : List Nat} {f : Nat → α} {k : Nat} {v : α} (hk : k ∈ ks) : sag ks f (zg f k v) := fun j hj => zg_n (fun e => hj (e ▸ hk))
theorem sag.up2 {α : Type} {ks : List Nat} {f g : Nat → α} {k : Nat} {v : α} (h : sag ks f g) (hk : k ∈ ks) : sag ks f (zg g k v) := fun j hj => by
  rw [zg_n (by intro e; subst e; exact hj hk)]
  exact h j hj
/-- a row holds a list -/
def rowIs (w : Int → Int) (p : List Int) : Prop := ∀ (i : Nat) (e : Int), p[i]? = some e → w (i : Int) = e
theorem rowIs_snoc {w : Int → Int} {p : List Int} {e : Int} (h : rowIs w p) (he : w (p.length : Int) = e) : rowIs w (p ++ [e]) := by
  intro i x hx
  by_cases hi : i < p.length
  · rw [List.getElem?_append_left hi] at hx
    exact h i x hx
  · rw [List.getElem?_append_right (by omega)] at hx
    have h1 : i - p.length < 1 := (List.getElem?_eq_some_iff.mp hx).1
    have h2 : i = p.length := by omega
    subst h2
    simp at hx
    rw [← hx]; exact he
theorem wk_row {w : Int → Int} : ∀ {fs : List gF}, wk w fs → rowIs w (gpre fs)
  | [], _ => by intro i e h; simp [gpre] at h
  | (e, T, v) :: fs, h => by
    rw [gpre_cons]
    refine rowIs_snoc (wk_row h.2) ?_
    rw [gpre_len]
    exact h.1
theorem rowIs_mid {w : Int → Int} {p1 p2 : List Int} {e : Int} (h : rowIs w (p1 ++ e :: p2)) : w (p1.length : Int) = e := h p1.length e (by simp)
theorem FV_mem {a : Int → Int} {z n f : Int} {T0 : Int → Bool} : ∀ {fs : List gF}, FV a z n f T0 fs → ∀ e ∈ gpre fs, 0 ≤ e ∧ e < n
  | [], _, e, he => by simp [gpre] at he
  | (e', T, v) :: fs, h, e, he => by
    rw [gpre_cons] at he
    rcases List.mem_append.mp he with q | q
    · exact FV_mem h.2.2.2.2.2 e q
    · rw [List.mem_singleton.mp q]
      exact h.2.2.2.1
/-- the model stands at the walk p, and L is still to come -/
def atW (a : Int → Int) (f z : Int) (T0 : Int → Bool) (x t : Int) (w : Int → Int) (p : List Int) (L : List (List Int)) : Prop := (∃ fs, sW a f z T0 fs x t w ∧ p = gpre fs ∧ L = gR a z (a 112) fs) ∧ x = p.length ∧ p.length ≤ 8 ∧ 1 ≤ p.length ∧ rowIs w p ∧ ∀ e ∈ p, 0 ≤ e ∧ e < a 112
def goQ (E : zE) (ν : zM) (m0 : Nat) (ad : Nat → Nat) (s : Nat → Int) (A : Nat → Int → Int) (f z : Int) (T0 : Int → Bool) (L : List (List Int)) (r : Bool) (μ' : zM) : Prop :=
  (r = false ∧ L = [] ∧ ∃ s' A', sag [18, 19] s s' ∧ sag [17] A A' ∧ mM E ν m0 ad s' A' = μ') ∨
  (r = true ∧ ∃ p L' s' A', L = p :: L' ∧ sag [18, 19] s s' ∧ sag [17] A A' ∧ atW (A 0) f z T0 (s' 18) (s' 19) (A' 17) p L' ∧ mM E ν m0 ad s' A' = μ')
theorem goQ_of {E : zE} {ν : zM} {m0 : Nat} {ad : Nat → Nat} {s : Nat → Int} {A : Nat → Int → Int} {f z : Int} {T0 : Int → Bool} {L : List (List Int)} {r : Bool} {μ' : zM} (hg : gV (A 0)) (hu : gu T0 ≤ 7) (h : goP E ν m0 ad s A f z T0 L r μ') : goQ E ν m0 ad s A f z T0 L r μ' := by
  have hs : ∀ x t, sag [18, 19] s (st2 s x t) := fun x t k hk => st2_n _ _ _ (by simp at hk; exact hk.1) (by simp at hk; exact hk.2)
  have hA : ∀ w, sag [17] A (zg A 17 w) := fun w => sag.up (by simp)
  rcases h with ⟨h1, h2, x, t, w, h3⟩ | ⟨h1, fs, x, t, w, h2, h3, h4, h5⟩
  · exact Or.inl ⟨h1, h2, _, _, hs x t, hA w, h3⟩
  · refine Or.inr ⟨h1, _, _, _, _, h2, hs x t, hA w, ⟨⟨fs, by rw [st2_18, st2_19, zg_s]; exact h4, rfl, rfl⟩, ?_⟩, h5⟩
    rw [st2_18, zg_s]
    refine ⟨by rw [h4.1, gpre_len], ?_, ?_, wk_row h4.2.1, FV_mem h4.2.2.2⟩
    · rw [gpre_len]
      cases fs with
      | nil => simp
      | cons fr fs' =>
        obtain ⟨e, T, v⟩ := fr
        have h6 := FV_u (fun e h1 h2 => by
          have h3 := hg.2 e h1 h2
          unfold eV at h3
          omega) hu h4.2.2.2.2.2.2.2.2 h4.2.2.2.2.2.1
        simp only [List.length_cons]
        omega
    · rw [gpre_len]
      cases fs with
      | nil => exact absurd trivial h3
      | cons fr fs' => simp
/-- all walks from f to z (or cycles) -/
def gAll (a : Int → Int) (f z : Int) (T0 : Int → Bool) : List (List Int) := gD a z (er 0 (a 112)) 8 T0 f
/-- the first walk -/
theorem m_go1 (l : Launch) (E : zE) {ν : zM} {m0 : Nat} {ad : Nat → Nat} {s : Nat → Int} {A : Nat → Int → Int} (hD : mD m0 ad) (hg : gV (A 0)) {f z : Int} (hf : 0 ≤ f ∧ f < 8) (hz : 0 ≤ z ∧ z < 8) (h20 : s 20 = f) (h21 : s 21 = z) {T0 : Int → Bool} (hu : gu T0 ≤ 7) (h18 : s 18 = 0) (h19 : gM (s 19) T0) : Met l yX1_goesOn (ws_ yX1_goesOn cX1_goesOn 5 (some .boolean)) (zR 4 0 0) (va_Pc [.ref m0, .int (zI 1)] (zPre E (mM E ν m0 ad s A))) (zQb E (goQ E ν m0 ad s A f z T0 (gAll (A 0) f z T0))) 0 0 (zA E) := by
  have h := m_goesOn l E (ν := ν) (s := s) (A := A) hD hg hf hz h20 h21 hu (fs0 := []) (x0 := s 18) (t0 := s 19) (w0 := A 17) ⟨h18, trivial, h19, trivial⟩ (b := true) (fun _ => trivial)
  rw [st2_id, zg_id] at h
  refine zmono_b h (fun r μ' q => goQ_of hg hu ?_)
  have e : gAll (A 0) f z T0 = gL (A 0) z f T0 [] 0 := by
    simp [gAll, gL, gD_S, gR, cT, cV, gpre]
  rw [e]
  exact q
/-- the next walk -/
theorem m_go2 (l : Launch) (E : zE) {ν : zM} {m0 : Nat} {ad : Nat → Nat} {s : Nat → Int} {A : Nat → Int → Int} (hD : mD m0 ad) (hg : gV (A 0)) {f z : Int} (hf : 0 ≤ f ∧ f < 8) (hz : 0 ≤ z ∧ z < 8) (h20 : s 20 = f) (h21 : s 21 = z) {T0 : Int → Bool} (hu : gu T0 ≤ 7) {p : List Int} {L : List (List Int)} (hp : atW (A 0) f z T0 (s 18) (s 19) (A 17) p L) : Met l yX1_goesOn (ws_ yX1_goesOn cX1_goesOn 5 (some .boolean)) (zR 4 0 0) (va_Pc [.ref m0, .int (zI 0)] (zPre E (mM E ν m0 ad s A))) (zQb E (goQ E ν m0 ad s A f z T0 L)) 0 0 (zA E) := by
  obtain ⟨⟨fs, h1, h2, h3⟩, -⟩ := hp
  have h := m_goesOn l E (ν := ν) (s := s) (A := A) hD hg hf hz h20 h21 hu h1 (b := false) (fun q => by cases q)
  rw [st2_id, zg_id] at h
  refine zmono_b h (fun r μ' q => goQ_of hg hu ?_)
  rw [h3]
  exact q
/-- a walk's sum and product, as the rows hold them -/
def eprod (a : Int → Int) (w : Int) : List Int → Int
  | [] => 1
  | e :: es => a (7 * e + w) * eprod a w es
theorem m_sum (l : Launch) (E : zE) {ν : zM} {m0 : Nat} {ad : Nat → Nat} {s : Nat → Int} {A : Nat → Int → Int} (hD : mD m0 ad) (hg : gV (A 0)) {p : List Int} (h18 : s 18 = p.length) (hl : p.length ≤ 8) (hr : rowIs (A 17) p) (hm : ∀ e ∈ p, 0 ≤ e ∧ e < A 0 112) {w : Int} (hw : 0 ≤ w ∧ w ≤ 6) : Met l yX1_sum (ws_ yX1_sum cX1_sum 5 (some .long)) (zR 2 0 0) (va_Pc [.ref m0, .int (zI w)] (zPre E (mM E ν m0 ad s A))) (zQl E (fun r μ' => mM E ν m0 ad s A = μ' ∧ esum (A 0) w p = r)) 0 0 (zA E) := by
  have hn := hg.1
  refine zmet (cc := cX1_sum) [_, _, _, _, _] (by decide) (Nat.le_of_ble_eq_true rfl) rfl rfl ?_
  intro X hl hX hinit; subst hl
  have hX : zOK X _ cX1_sum RX1 (some .long) 5 := hX
  generalize hQ : MQ _ _ _ _ _ _ _ = Q
  have loop : ∀ (p2 p1 : List Int) (c : Int), p = p1 ++ p2 → c + esum (A 0) w p2 = esum (A 0) w p → zW X (zR 2 0 0) E (mM E ν m0 ad s A) 0 0 Q 5 [some (.ref m0), some (.int (zI w)), some (.long (zJ c)), none, some (.int (zI (p1.length : Int)))] [] := by
    intro p2
    induction p2 with
    | nil =>
      intro p1 c hp hc
      have hpl : p.length = p1.length := by rw [hp, List.append_nil]
      refine z_iload hX rfl dX1_sum_5 ?_
      refine z_aload_n hX rfl (by first | rfl | exact va_rf_r _) dX1_sum_7 ?_
      refine zm_get hX 18 (by decide) q1388 dX1_sum_8 rfl rfl ?_
      refine z_icmp_ge hX (by omega) (by omega) dX1_sum_11 (tgt := 36) rfl (fun h_11 => ?_) (fun h_11 => ?_)
      · refine z_lload_n hX rfl dX1_sum_36 ?_
        (try rw [← hQ])
        refine z_lreturn hX dX1_sum_37 (by omega) (by omega) ?_
        exact ⟨rfl, by simp [esum] at hc ⊢; omega⟩
      · exact absurd h_11 (by omega)
    | cons e p2 ih =>
      intro p1 c hp hc
      have hpl : p.length = p1.length + p2.length + 1 := by rw [hp]; simp; omega
      have he := hm e (by rw [hp]; simp)
      have h17 : A 17 (p1.length : Int) = e := rowIs_mid (by rw [← hp]; exact hr)
      have hv := hg.2 e he.1 he.2
      unfold eV at hv
      have hb : -2147483648 ≤ A 0 (7 * e + w) ∧ A 0 (7 * e + w) ≤ 2147483647 := by
        rcases (show w = 0 ∨ w = 1 ∨ w = 2 ∨ w = 3 ∨ w = 4 ∨ w = 5 ∨ w = 6 by omega) with q | q | q | q | q | q | q <;> subst q <;> (try rw [Int.add_zero]) <;> omega
      refine z_iload hX rfl dX1_sum_5 ?_
      refine z_aload_n hX rfl (by first | rfl | exact va_rf_r _) dX1_sum_7 ?_
      refine zm_get hX 18 (by decide) q1388 dX1_sum_8 rfl rfl ?_
      refine z_icmp_ge hX (by omega) (by omega) dX1_sum_11 (tgt := 36) rfl (fun h_11 => ?_) (fun h_11 => ?_)
      · exact absurd h_11 (by omega)
      · refine z_lload_n hX rfl dX1_sum_14 ?_
        refine z_aload_n hX rfl (by first | rfl | exact va_rf_r _) dX1_sum_15 ?_
        refine z_aload_n hX rfl (by first | rfl | exact va_rf_r _) dX1_sum_16 ?_
        refine zm_get hX 17 (by decide) q1387 dX1_sum_17 rfl rfl ?_
        refine z_iload hX rfl dX1_sum_20 ?_
        refine zm_iaload hX hD 17 (by decide) (by decide) 8 rfl dX1_sum_22 (by omega) ?_
        refine z_iload_n hX rfl dX1_sum_23 ?_
        refine z_calli (z_runV hX (m_of _ _ hD (by omega)) (cwV 2 hX.ts (lw_V q1529 q1531 qs34 q71 q1532) rfl rfl rfl (by decide +kernel) (zroom (by decide) (by decide))) dX1_sum_24 mM_0 (ci := 1) rfl rfl rfl rfl (by first | exact Nat.le_of_ble_eq_true rfl | simp [va_rf_c, Value.category]) (zhf (by omega) (by omega))) (fun r_24 μ_24 h_24 => ?_)
        obtain ⟨rfl, rfl⟩ := h_24
        refine z_i2l hX (by rw [h17]; exact hb) dX1_sum_27 ?_
        refine z_ladd hX dX1_sum_28 ?_
        refine z_lstore_n hX (lv' := [_, _, _, _, _]) (Nat.le_of_ble_eq_true rfl) (by first | exact zpre_0 | exact zpre_n rfl | exact zpre_1 rfl rfl | exact zpre_1 rfl (va_rf_c _)) rfl rfl dX1_sum_29 ?_
        refine z_iinc hX (lv' := [_, _, _, _, _]) rfl (Nat.le_of_ble_eq_true rfl) (by first | exact zpre_0 | exact zpre_n rfl | exact zpre_1 rfl rfl | exact zpre_1 rfl (va_rf_c _)) rfl dX1_sum_30 ?_
        refine z_goto hX (tgt := 5) dX1_sum_33 rfl ?_
        rw [h17]
        have h := ih (p1 ++ [e]) (c + A 0 (7 * e + w)) (by rw [hp]; simp) (by rw [← hc]; simp only [esum, List.map_cons, List.sum_cons]; omega)
        rw [List.length_append, List.length_singleton, show ((p1.length + 1 : Nat) : Int) = (p1.length : Int) + 1 from rfl] at h
        exact h
  refine z_lconst hX (z := 0) (by decide) dX1_sum_0 ?_
  refine z_lstore_n hX (lv' := [_, _, _, _, _]) (Nat.le_of_ble_eq_true rfl) (by first | exact zpre_0 | exact zpre_n rfl | exact zpre_1 rfl rfl | exact zpre_1 rfl (va_rf_c _)) rfl rfl dX1_sum_1 ?_
  refine z_iconst hX dX1_sum_2 ?_
  refine z_istore hX (lv' := [_, _, _, _, _]) (Nat.le_of_ble_eq_true rfl) (by first | exact zpre_0 | exact zpre_n rfl | exact zpre_1 rfl rfl | exact zpre_1 rfl (va_rf_c _)) rfl dX1_sum_3 ?_
  exact loop p [] 0 rfl (by omega)
theorem m_product (l : Launch) (E : zE) {ν : zM} {m0 : Nat} {ad : Nat → Nat} {s : Nat → Int} {A : Nat → Int → Int} (hD : mD m0 ad) (hg : gV (A 0)) {p : List Int} (h18 : s 18 = p.length) (hl : p.length ≤ 8) (hr : rowIs (A 17) p) (hm : ∀ e ∈ p, 0 ≤ e ∧ e < A 0 112) {w : Int} (hw : 5 ≤ w ∧ w ≤ 6) : Met l yX1_product (ws_ yX1_product cX1_product 5 (some .long)) (zR 2 0 0) (va_Pc [.ref m0, .int (zI w)] (zPre E (mM E ν m0 ad s A))) (zQl E (fun r μ' => mM E ν m0 ad s A = μ' ∧ eprod (A 0) w p = r)) 0 0 (zA E) := by
  have hn := hg.1
  refine zmet (cc := cX1_product) [_, _, _, _, _] (by decide) (Nat.le_of_ble_eq_true rfl) rfl rfl ?_
  intro X hl hX hinit; subst hl
  have hX : zOK X _ cX1_product RX1 (some .long) 5 := hX
  generalize hQ : MQ _ _ _ _ _ _ _ = Q
  have loop : ∀ (p2 p1 : List Int) (c : Int), p = p1 ++ p2 → c * eprod (A 0) w p2 = eprod (A 0) w p → zW X (zR 2 0 0) E (mM E ν m0 ad s A) 0 0 Q 5 [some (.ref m0), some (.int (zI w)), some (.long (zJ c)), none, some (.int (zI (p1.length : Int)))] [] := by
    intro p2
    induction p2 with
    | nil =>
      intro p1 c hp hc
      have hpl : p.length = p1.length := by rw [hp, List.append_nil]
      refine z_iload hX rfl dX1_product_5 ?_
      refine z_aload_n hX rfl (by first | rfl | exact va_rf_r _) dX1_product_7 ?_
      refine zm_get hX 18 (by decide) q1388 dX1_product_8 rfl rfl ?_
      refine z_icmp_ge hX (by omega) (by omega) dX1_product_11 (tgt := 36) rfl (fun h_11 => ?_) (fun h_11 => ?_)
      · refine z_lload_n hX rfl dX1_product_36 ?_
        (try rw [← hQ])
        refine z_lreturn hX dX1_product_37 (by omega) (by omega) ?_
        exact ⟨rfl, by rw [← hc, eprod, Int.mul_one]⟩
      · exact absurd h_11 (by omega)
    | cons e p2 ih =>
      intro p1 c hp hc
      have hpl : p.length = p1.length + p2.length + 1 := by rw [hp]; simp; omega
      have he := hm e (by rw [hp]; simp)
      have h17 : A 17 (p1.length : Int) = e := rowIs_mid (by rw [← hp]; exact hr)
      have hv := hg.2 e he.1 he.2
      unfold eV at hv
      have hb : -2147483648 ≤ A 0 (7 * e + w) ∧ A 0 (7 * e + w) ≤ 2147483647 := by
        rcases (show w = 5 ∨ w = 6 by omega) with q | q <;> subst q <;> omega
      refine z_iload hX rfl dX1_product_5 ?_
      refine z_aload_n hX rfl (by first | rfl | exact va_rf_r _) dX1_product_7 ?_
      refine zm_get hX 18 (by decide) q1388 dX1_product_8 rfl rfl ?_
      refine z_icmp_ge hX (by omega) (by omega) dX1_product_11 (tgt := 36) rfl (fun h_11 => ?_) (fun h_11 => ?_)
      · exact absurd h_11 (by omega)
      · refine z_lload_n hX rfl dX1_product_14 ?_
        refine z_aload_n hX rfl (by first | rfl | exact va_rf_r _) dX1_product_15 ?_
        refine z_aload_n hX rfl (by first | rfl | exact va_rf_r _) dX1_product_16 ?_
        refine zm_get hX 17 (by decide) q1387 dX1_product_17 rfl rfl ?_
        refine z_iload hX rfl dX1_product_20 ?_
        refine zm_iaload hX hD 17 (by decide) (by decide) 8 rfl dX1_product_22 (by omega) ?_
        refine z_iload_n hX rfl dX1_product_23 ?_
        refine z_calli (z_runV hX (m_of _ _ hD (by omega)) (cwV 2 hX.ts (lw_V q1529 q1531 qs34 q71 q1532) rfl rfl rfl (by decide +kernel) (zroom (by decide) (by decide))) dX1_product_24 mM_0 (ci := 1) rfl rfl rfl rfl (by first | exact Nat.le_of_ble_eq_true rfl | simp [va_rf_c, Value.category]) (zhf (by omega) (by omega))) (fun r_24 μ_24 h_24 => ?_)
        obtain ⟨rfl, rfl⟩ := h_24
        refine z_i2l hX (by rw [h17]; exact hb) dX1_product_27 ?_
        refine z_lmul hX dX1_product_28 ?_
        refine z_lstore_n hX (lv' := [_, _, _, _, _]) (Nat.le_of_ble_eq_true rfl) (by first | exact zpre_0 | exact zpre_n rfl | exact zpre_1 rfl rfl | exact zpre_1 rfl (va_rf_c _)) rfl rfl dX1_product_29 ?_
        refine z_iinc hX (lv' := [_, _, _, _, _]) rfl (Nat.le_of_ble_eq_true rfl) (by first | exact zpre_0 | exact zpre_n rfl | exact zpre_1 rfl rfl | exact zpre_1 rfl (va_rf_c _)) rfl dX1_product_30 ?_
        refine z_goto hX (tgt := 5) dX1_product_33 rfl ?_
        rw [h17]
        have h := ih (p1 ++ [e]) (c * A 0 (7 * e + w)) (by rw [hp]; simp) (by rw [← hc, eprod, Int.mul_assoc])
        rw [List.length_append, List.length_singleton, show ((p1.length + 1 : Nat) : Int) = (p1.length : Int) + 1 from rfl] at h
        exact h
  refine z_lconst hX (z := 1) (by decide) dX1_product_0 ?_
  refine z_lstore_n hX (lv' := [_, _, _, _, _]) (Nat.le_of_ble_eq_true rfl) (by first | exact zpre_0 | exact zpre_n rfl | exact zpre_1 rfl rfl | exact zpre_1 rfl (va_rf_c _)) rfl rfl dX1_product_1 ?_
  refine z_iconst hX dX1_product_2 ?_
  refine z_istore hX (lv' := [_, _, _, _, _]) (Nat.le_of_ble_eq_true rfl) (by first | exact zpre_0 | exact zpre_n rfl | exact zpre_1 rfl rfl | exact zpre_1 rfl (va_rf_c _)) rfl dX1_product_3 ?_
  exact loop p [] 1 rfl (by rw [Int.one_mul])
/-- the lesser one of two rows of the same length, by the first place where they differ -/
def llt : List Int → List Int → Bool
  | x :: xs, y :: ys => if x = y then llt xs ys else decide (x < y)
  | _, _ => false
theorem m_isBeforeBest (l : Launch) (E : zE) {ν : zM} {m0 : Nat} {ad : Nat → Nat} {s : Nat → Int} {A : Nat → Int → Int} (hD : mD m0 ad) {p q : List Int} (h18 : s 18 = p.length) (hl : p.length ≤ 8) (hq : q.length = p.length) (hr : rowIs (A 17) p) (hr2 : rowIs (A 22) q) (hm : ∀ e ∈ p, 0 ≤ e ∧ e < 16) (hm2 : ∀ e ∈ q, 0 ≤ e ∧ e < 16) : Met l yX1_isBeforeBest (ws_ yX1_isBeforeBest cX1_isBeforeBest 2 (some .boolean)) (zR 1 0 0) (va_Pc [.ref m0] (zPre E (mM E ν m0 ad s A))) (zQb E (fun r μ' => mM E ν m0 ad s A = μ' ∧ llt p q = r)) 0 0 (zA E) := by
  refine zmet (cc := cX1_isBeforeBest) [_, _] (by decide) (Nat.le_of_ble_eq_true rfl) rfl rfl ?_
  intro X hl hX hinit; subst hl
  have hX : zOK X _ cX1_isBeforeBest RX1 (some .boolean) 2 := hX
  generalize hQ : MQ _ _ _ _ _ _ _ = Q
  have loop : ∀ (p2 q2 p1 q1 : List Int), p = p1 ++ p2 → q = q1 ++ q2 → p1.length = q1.length → llt p2 q2 = llt p q → zW X (zR 1 0 0) E (mM E ν m0 ad s A) 0 0 Q 2 [some (.ref m0), some (.int (zI (p1.length : Int)))] [] := by
    intro p2
    induction p2 with
    | nil =>
      intro q2 p1 q1 hp hq1 hlen hc
      have hpl : p.length = p1.length := by rw [hp, List.append_nil]
      refine z_iload_n hX rfl dX1_isBeforeBest_2 ?_
      refine z_aload_n hX rfl (by first | rfl | exact va_rf_r _) dX1_isBeforeBest_3 ?_
      refine zm_get hX 18 (by decide) q1388 dX1_isBeforeBest_4 rfl rfl ?_
      refine z_icmp_ge hX (by omega) (by omega) dX1_isBeforeBest_7 (tgt := 52) rfl (fun h_7 => ?_) (fun h_7 => ?_)
      · refine z_iconst hX dX1_isBeforeBest_52 ?_
        (try rw [← hQ])
        first | refine z_breturn hX true dX1_isBeforeBest_53 (by omega) (by omega) ?_ | refine z_breturn hX false dX1_isBeforeBest_53 (by omega) (by omega) ?_ | refine z_breturn hX _ dX1_isBeforeBest_53 (by omega) (by omega) ?_
        exact ⟨rfl, by rw [← hc]; cases q2 <;> rfl⟩
      · exact absurd h_7 (by omega)
    | cons e p2 ih =>
      intro q2 p1 q1 hp hq1 hlen hc
      have hpl : p.length = p1.length + p2.length + 1 := by rw [hp]; simp; omega
      cases q2 with
      | nil =>
        rw [hq1, List.append_nil] at hq
        omega
      | cons e2 q2 =>
        have he := hm e (by rw [hp]; simp)
        have he2 := hm2 e2 (by rw [hq1]; simp)
        have h17 : A 17 (p1.length : Int) = e := rowIs_mid (by rw [← hp]; exact hr)
        have h22 : A 22 (p1.length : Int) = e2 := by rw [hlen]; exact rowIs_mid (by rw [← hq1]; exact hr2)
        rw [llt] at hc
        refine z_iload_n hX rfl dX1_isBeforeBest_2 ?_
        refine z_aload_n hX rfl (by first | rfl | exact va_rf_r _) dX1_isBeforeBest_3 ?_
        refine zm_get hX 18 (by decide) q1388 dX1_isBeforeBest_4 rfl rfl ?_
        refine z_icmp_ge hX (by omega) (by omega) dX1_isBeforeBest_7 (tgt := 52) rfl (fun h_7 => ?_) (fun h_7 => ?_)
        · exact absurd h_7 (by omega)
        · refine z_aload_n hX rfl (by first | rfl | exact va_rf_r _) dX1_isBeforeBest_10 ?_
          refine zm_get hX 17 (by decide) q1387 dX1_isBeforeBest_11 rfl rfl ?_
          refine z_iload_n hX rfl dX1_isBeforeBest_14 ?_
          refine zm_iaload hX hD 17 (by decide) (by decide) 8 rfl dX1_isBeforeBest_15 (by omega) ?_
          refine z_aload_n hX rfl (by first | rfl | exact va_rf_r _) dX1_isBeforeBest_16 ?_
          refine zm_get hX 22 (by decide) q1392 dX1_isBeforeBest_17 rfl rfl ?_
          refine z_iload_n hX rfl dX1_isBeforeBest_20 ?_
          refine zm_iaload hX hD 22 (by decide) (by decide) 8 rfl dX1_isBeforeBest_21 (by omega) ?_
          refine z_icmp_eq hX (by omega) (by omega) dX1_isBeforeBest_22 (tgt := 46) rfl (fun h_22 => ?_) (fun h_22 => ?_)
          · rw [if_pos (by omega)] at hc
            refine z_iinc hX (lv' := [_, _]) rfl (Nat.le_of_ble_eq_true rfl) (by first | exact zpre_0 | exact zpre_n rfl | exact zpre_1 rfl rfl | exact zpre_1 rfl (va_rf_c _)) rfl dX1_isBeforeBest_46 ?_
            refine z_goto hX (tgt := 2) dX1_isBeforeBest_49 rfl ?_
            have h := ih q2 (p1 ++ [e]) (q1 ++ [e2]) (by rw [hp]; simp) (by rw [hq1]; simp) (by simp [hlen]) hc
            rw [List.length_append, List.length_singleton, show ((p1.length + 1 : Nat) : Int) = (p1.length : Int) + 1 from rfl] at h
            exact h
          · rw [if_neg (by omega)] at hc
            refine z_aload_n hX rfl (by first | rfl | exact va_rf_r _) dX1_isBeforeBest_25 ?_
            refine zm_get hX 17 (by decide) q1387 dX1_isBeforeBest_26 rfl rfl ?_
            refine z_iload_n hX rfl dX1_isBeforeBest_29 ?_
            refine zm_iaload hX hD 17 (by decide) (by decide) 8 rfl dX1_isBeforeBest_30 (by omega) ?_
            refine z_aload_n hX rfl (by first | rfl | exact va_rf_r _) dX1_isBeforeBest_31 ?_
            refine zm_get hX 22 (by decide) q1392 dX1_isBeforeBest_32 rfl rfl ?_
            refine z_iload_n hX rfl dX1_isBeforeBest_35 ?_
            refine zm_iaload hX hD 22 (by decide) (by decide) 8 rfl dX1_isBeforeBest_36 (by omega) ?_
            refine z_icmp_ge hX (by omega) (by omega) dX1_isBeforeBest_37 (tgt := 44) rfl (fun h_37 => ?_) (fun h_37 => ?_)
            · refine z_iconst hX dX1_isBeforeBest_44 ?_
              (try rw [← hQ])
              first | refine z_breturn hX true dX1_isBeforeBest_45 (by omega) (by omega) ?_ | refine z_breturn hX false dX1_isBeforeBest_45 (by omega) (by omega) ?_ | refine z_breturn hX _ dX1_isBeforeBest_45 (by omega) (by omega) ?_
              exact ⟨rfl, by rw [← hc]; exact decide_eq_false (by omega)⟩
            · refine z_iconst hX dX1_isBeforeBest_40 ?_
              refine z_goto hX (tgt := 45) dX1_isBeforeBest_41 rfl ?_
              (try rw [← hQ])
              first | refine z_breturn hX true dX1_isBeforeBest_45 (by omega) (by omega) ?_ | refine z_breturn hX false dX1_isBeforeBest_45 (by omega) (by omega) ?_ | refine z_breturn hX _ dX1_isBeforeBest_45 (by omega) (by omega) ?_
              exact ⟨rfl, by rw [← hc]; exact decide_eq_true (by omega)⟩
  refine z_iconst hX dX1_isBeforeBest_0 ?_
  refine z_istore_n hX (lv' := [_, _]) (Nat.le_of_ble_eq_true rfl) (by first | exact zpre_0 | exact zpre_n rfl | exact zpre_1 rfl rfl | exact zpre_1 rfl (va_rf_c _)) rfl dX1_isBeforeBest_1 ?_
  exact loop p q [] [] rfl rfl rfl rfl
