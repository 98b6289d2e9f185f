/-! MODEL 7: searches, cycles, bounds, exchange -/
set_option maxRecDepth 100000
theorem esum_b {a : Int → Int} {w lo hi : Int} : ∀ (es : List Int), (∀ e ∈ es, lo ≤ a (7 * e + w) ∧ a (7 * e + w) ≤ hi) → lo * es.length ≤ esum a w es ∧ esum a w es ≤ hi * es.length
  | [], _ => by simp [esum]
  | e :: es, h => by
    have h1 := esum_b es (fun x hx => h x (List.mem_cons_of_mem _ hx))
    have h2 := h e List.mem_cons_self
    simp only [esum, List.map_cons, List.sum_cons, List.length_cons] at h1 ⊢
    have h3 : lo * ((es.length + 1 : Nat) : Int) = lo * es.length + lo := by rw [Int.natCast_add, Int.mul_add]; simp
    have h4 : hi * ((es.length + 1 : Nat) : Int) = hi * es.length + hi := by rw [Int.natCast_add, Int.mul_add]; simp
    omega
theorem eprod_b {a : Int → Int} {w : Int} : ∀ (es : List Int), (∀ e ∈ es, 1 ≤ a (7 * e + w) ∧ a (7 * e + w) ≤ 30) → 1 ≤ eprod a w es ∧ eprod a w es ≤ 30 ^ es.length
  | [], _ => by simp [eprod]
  | e :: es, h => by
    have h1 := eprod_b es (fun x hx => h x (List.mem_cons_of_mem _ hx))
    have h2 := h e List.mem_cons_self
    rw [eprod, List.length_cons, Int.pow_succ]
    constructor
    · have := Int.mul_le_mul h2.1 h1.1 (by decide) (by omega)
      omega
    · have := Int.mul_le_mul h2.2 h1.2 (by omega) (by decide)
      rw [Int.mul_comm (30 ^ es.length) 30]
      exact this
theorem pow30 {n : Nat} (h : n ≤ 8) : (30 : Int) ^ n ≤ 656100000000 := by
  have : ∀ n, n ≤ 8 → (30 : Int) ^ n ≤ 656100000000 := by decide +kernel
  exact this n h
theorem eprod_r {a : Int → Int} {w : Int} (hg : gV a) (hw : w = 5 ∨ w = 6) {p : List Int} (hl : p.length ≤ 8) (hm : ∀ e ∈ p, 0 ≤ e ∧ e < a 112) : 1 ≤ eprod a w p ∧ eprod a w p ≤ 656100000000 := by
  have h := eprod_b (a := a) (w := w) p (fun e he => by
    have h1 := hg.2 e (hm e he).1 (hm e he).2
    unfold eV at h1
    rcases hw with q | q <;> subst q <;> omega)
  have := pow30 hl
  omega
theorem esum_w {a : Int → Int} (hg : gV a) {p : List Int} (hl : p.length ≤ 8) (hm : ∀ e ∈ p, 0 ≤ e ∧ e < a 112) : -792 ≤ esum a 2 p ∧ esum a 2 p ≤ 792 := by
  have h := esum_b (a := a) (w := 2) (lo := -99) (hi := 99) p (fun e he => by
    have h1 := hg.2 e (hm e he).1 (hm e he).2
    unfold eV at h1
    omega)
  omega
theorem esum_s {a : Int → Int} (hg : gV a) {p : List Int} (hl : p.length ≤ 8) (hm : ∀ e ∈ p, 0 ≤ e ∧ e < a 112) : -72 ≤ esum a 3 p ∧ esum a 3 p ≤ 72 := by
  have h := esum_b (a := a) (w := 3) (lo := -9) (hi := 9) p (fun e he => by
    have h1 := hg.2 e (hm e he).1 (hm e he).2
    unfold eV at h1
    omega)
  omega
theorem esum_t {a : Int → Int} (hg : gV a) {p : List Int} (hl : p.length ≤ 8) (h1 : 1 ≤ p.length) (hm : ∀ e ∈ p, 0 ≤ e ∧ e < a 112) : 1 ≤ esum a 4 p ∧ esum a 4 p ≤ 72 := by
  have h := esum_b (a := a) (w := 4) (lo := 1) (hi := 9) p (fun e he => by
    have h1 := hg.2 e (hm e he).1 (hm e he).2
    unfold eV at h1
    omega)
  omega
/-- the value of a walk by kind: 0 the mean, 1 the ratio, 2 the product -/
def vUp (k : Int) (a : Int → Int) (p : List Int) : Int := if k = 2 then eprod a 5 p else esum a 2 p
def vDn (k : Int) (a : Int → Int) (p : List Int) : Int := if k = 2 then eprod a 6 p else if k = 0 then (p.length : Int) else esum a 4 p
def vG (k : Int) : Int := if k = 2 then -1 else 1
def wst (k : Int) (a : Int → Int) (b : bT) (p : List Int) : bT := wgh (vG k) (vUp k a p) (vDn k a p) p b
abbrev lowT (s : Int) : Int → Bool := fun v => decide (v ≤ s)
def gC (a : Int → Int) : List (List Int) := (er 0 8).flatMap (fun s => gAll a s s (lowT s))
def gBest (k : Int) (a : Int → Int) : bT := (gC a).foldl (wst k a) none
/-- is there a next walk -/
def nxW (a : Int → Int) (f z : Int) (T0 : Int → Bool) (s : Nat → Int) (A : Nat → Int → Int) (r : Bool) (L : List (List Int)) : Prop := (r = false ∧ L = []) ∨ (r = true ∧ ∃ p L', L = p :: L' ∧ atW a f z T0 (s 18) (s 19) (A 17) p L')
theorem goQ_nx {E : zE} {ν : zM} {m0 : Nat} {ad : Nat → Nat} {s : Nat → Int} {A : Nat → Int → Int} {f z : Int} {T0 : Int → Bool} {L : List (List Int)} {r : Bool} {μ' : zM} (h : goQ E ν m0 ad s A f z T0 L r μ') : ∃ s' A', sag [18, 19] s s' ∧ sag [17] A A' ∧ nxW (A 0) f z T0 s' A' r L ∧ mM E ν m0 ad s' A' = μ' := by
  rcases h with ⟨h1, h2, s', A', h3, h4, h5⟩ | ⟨h1, p, L', s', A', h2, h3, h4, h5, h6⟩
  · exact ⟨s', A', h3, h4, Or.inl ⟨h1, h2⟩, h5⟩
  · exact ⟨s', A', h3, h4, Or.inr ⟨h1, p, L', h2, h5⟩, h6⟩
theorem lowT_u {s : Int} (h : 0 ≤ s ∧ s < 8) : gu (lowT s) ≤ 7 := gu_taken h.1 h.2 (by simp)
theorem bS_ag {s s' : Nat → Int} {A A' : Nat → Int → Int} {b : bT} (h : bS s A b) (h1 : s' 23 = s 23) (h2 : s' 24 = s 24) (h3 : s' 25 = s 25) (h4 : A' 22 = A 22) : bS s' A' b := by
  cases b with
  | none => show s' 23 = _; rw [h1]; exact h
  | some b =>
    obtain ⟨k1, k2, k3, k4, k5, k6⟩ := h
    exact ⟨by rw [h1]; exact k1, k2, by rw [h2]; exact k3, by rw [h3]; exact k4, by rw [h4]; exact k5, k6⟩
def fndP (E : zE) (ν : zM) (m0 : Nat) (ad : Nat → Nat) (s : Nat → Int) (A : Nat → Int → Int) : bT → Int → zM → Prop
  | none, r, μ' => r = -1000001 ∧ mM E ν m0 ad s A = μ'
  | some b, r, μ' => r = b.2.2.length ∧ ∃ B, rowIs B b.2.2 ∧ mM E ν m0 ad (zg (zg (zg s 8 (b.1 / (Int.gcd b.1 b.2.1 : Int))) 9 (b.2.1 / (Int.gcd b.1 b.2.1 : Int))) 7 b.2.2.length) (zg A 6 B) = μ'
theorem m_finds (l : Launch) (E : zE) {ν : zM} {m0 : Nat} {ad : Nat → Nat} {s : Nat → Int} {A : Nat → Int → Int} (hD : mD m0 ad) {b : bT} (hb : bS s A b) : Met l yX1_finds (ws_ yX1_finds cX1_finds 4 (some .int)) (zR 1 0 0) (va_Pc [.ref m0] (zPre E (mM E ν m0 ad s A))) (zQi E (fndP E ν m0 ad s A b)) 0 0 (zA E) := by
  refine zmet (cc := cX1_finds) [_, _, _, _] (by decide) (Nat.le_of_ble_eq_true rfl) rfl rfl ?_
  intro X hl hX hinit; subst hl
  have hX : zOK X _ cX1_finds RX1 (some .int) 4 := hX
  generalize hQ : MQ _ _ _ _ _ _ _ = Q
  cases b with
  | none =>
    have h23 : s 23 = -1000001 := hb
    refine z_aload_n hX rfl (by first | rfl | exact va_rf_r _) dX1_finds_0 ?_
    refine zm_get hX 23 (by decide) q1393 dX1_finds_1 rfl rfl ?_
    refine z_ldc hX (z := -1000001) q1369 (by decide) dX1_finds_4 ?_
    refine z_icmp_ne hX (by omega) (by omega) dX1_finds_6 (tgt := 12) rfl (fun h_6 => ?_) (fun h_6 => ?_)
    · exact absurd h23 h_6
    · refine z_ldc hX (z := -1000001) q1369 (by decide) dX1_finds_9 ?_
      (try rw [← hQ])
      refine z_ireturn hX dX1_finds_11 (by omega) (by omega) ?_
      exact ⟨rfl, rfl⟩
  | some bb =>
    obtain ⟨bu, bd, q⟩ := bb
    obtain ⟨k1, k2, k3, k4, k5, k6, k7, k8⟩ := hb
    simp only at k1 k2 k3 k4 k5 k6 k7 k8
    have g1 : (Int.gcd bu bd : Int) ∣ bu := Int.gcd_dvd_left _ _
    have g2 : (Int.gcd bu bd : Int) ∣ bd := Int.gcd_dvd_right _ _
    have g3 : 0 < Int.gcd bu bd := Int.gcd_pos_of_ne_zero_right _ (by omega)
    have g4 : (Int.gcd bu bd : Int) ≤ bd := Int.le_of_dvd k8.1 g2
    have e1 : bu.tdiv (Int.gcd bu bd : Int) = bu / (Int.gcd bu bd : Int) := Int.tdiv_eq_ediv_of_dvd g1
    have e2 : bd.tdiv (Int.gcd bu bd : Int) = bd / (Int.gcd bu bd : Int) := Int.tdiv_eq_ediv_of_dvd g2
    have copy : ∀ (p2 p1 : List Int) (B : Int → Int), q = p1 ++ p2 → rowIs B p1 → zW X (zR 1 0 0) E (mM E ν m0 ad (zg (zg (zg s 8 (bu / (Int.gcd bu bd : Int))) 9 (bd / (Int.gcd bu bd : Int))) 7 q.length) (zg A 6 B)) 0 0 Q 54 [some (.ref m0), some (.long (zJ (Int.gcd bu bd : Int))), none, some (.int (zI (p1.length : Int)))] [] := by
      have q23 : (zg (zg (zg s 8 (bu / (Int.gcd bu bd : Int))) 9 (bd / (Int.gcd bu bd : Int))) 7 (q.length : Int)) 23 = q.length := by rw [zg_n (by decide), zg_n (by decide), zg_n (by decide), k1]
      intro p2
      induction p2 with
      | nil =>
        intro p1 B hp hB
        have hpl : q.length = p1.length := by rw [hp, List.append_nil]
        refine z_iload_n hX rfl dX1_finds_54 ?_
        refine z_aload_n hX rfl (by first | rfl | exact va_rf_r _) dX1_finds_55 ?_
        refine zm_get hX 23 (by decide) q1393 dX1_finds_56 rfl rfl ?_
        refine z_icmp_ge hX (by omega) (by omega) dX1_finds_59 (tgt := 80) rfl (fun h_59 => ?_) (fun h_59 => ?_)
        · refine z_aload_n hX rfl (by first | rfl | exact va_rf_r _) dX1_finds_80 ?_
          refine zm_get hX 23 (by decide) q1393 dX1_finds_81 rfl rfl ?_
          (try rw [← hQ])
          refine z_ireturn hX dX1_finds_84 (by omega) (by omega) ?_
          refine ⟨by rw [q23], B, ?_, rfl⟩
          rw [hp, List.append_nil]
          exact hB
        · exact absurd h_59 (by omega)
      | cons e p2 ih =>
        intro p1 B hp hB
        have hpl : q.length = p1.length + p2.length + 1 := by rw [hp]; simp; omega
        have h22 : A 22 (p1.length : Int) = e := rowIs_mid (by rw [← hp]; exact k5)
        refine z_iload_n hX rfl dX1_finds_54 ?_
        refine z_aload_n hX rfl (by first | rfl | exact va_rf_r _) dX1_finds_55 ?_
        refine zm_get hX 23 (by decide) q1393 dX1_finds_56 rfl rfl ?_
        refine z_icmp_ge hX (by omega) (by omega) dX1_finds_59 (tgt := 80) rfl (fun h_59 => ?_) (fun h_59 => ?_)
        · exact absurd h_59 (by omega)
        · refine z_aload_n hX rfl (by first | rfl | exact va_rf_r _) dX1_finds_62 ?_
          refine zm_get hX 6 (by decide) q1376 dX1_finds_63 rfl rfl ?_
          refine z_iload_n hX rfl dX1_finds_66 ?_
          refine z_aload_n hX rfl (by first | rfl | exact va_rf_r _) dX1_finds_67 ?_
          refine zm_get hX 22 (by decide) q1392 dX1_finds_68 rfl rfl ?_
          refine z_iload_n hX rfl dX1_finds_71 ?_
          refine zm_iaload hX hD 22 (by decide) (by decide) 8 rfl dX1_finds_72 (by omega) ?_
          refine zm_iastore hX hD 6 (by decide) (by decide) 8 rfl dX1_finds_73 (by omega) ?_
          refine z_iinc hX (lv' := [_, _, _, _]) rfl (Nat.le_of_ble_eq_true rfl) (by first | exact zpre_0 | exact zpre_n rfl | exact zpre_1 rfl rfl | exact zpre_1 rfl (va_rf_c _)) rfl dX1_finds_74 ?_
          refine z_goto hX (tgt := 54) dX1_finds_77 rfl ?_
          rw [zg_zg, zg_s, zg_n (show (22 : Nat) ≠ 6 by decide), h22]
          have h := ih (p1 ++ [e]) (zf B (p1.length : Int) e) (by rw [hp]; simp) (rowIs_cpy hB rfl)
          rw [List.length_append, List.length_singleton, show ((p1.length + 1 : Nat) : Int) = (p1.length : Int) + 1 from rfl] at h
          exact h
    have s24 : ∀ v, zg s 8 v 24 = s 24 := fun v => zg_n (by decide)
    have s25 : ∀ v, zg s 8 v 25 = s 25 := fun v => zg_n (by decide)
    have s23 : ∀ v w, zg (zg s 8 v) 9 w 23 = s 23 := fun v w => by rw [zg_n (by decide), zg_n (by decide)]
    refine z_aload_n hX rfl (by first | rfl | exact va_rf_r _) dX1_finds_0 ?_
    refine zm_get hX 23 (by decide) q1393 dX1_finds_1 rfl rfl ?_
    refine z_ldc hX (z := -1000001) q1369 (by decide) dX1_finds_4 ?_
    refine z_icmp_ne hX (by omega) (by omega) dX1_finds_6 (tgt := 12) rfl (fun h_6 => ?_) (fun h_6 => ?_)
    · refine z_aload_n hX rfl (by first | rfl | exact va_rf_r _) dX1_finds_12 ?_
      refine zm_get hX 24 (by decide) q1394 dX1_finds_13 rfl rfl ?_
      refine z_aload_n hX rfl (by first | rfl | exact va_rf_r _) dX1_finds_16 ?_
      refine zm_get hX 25 (by decide) q1395 dX1_finds_17 rfl rfl ?_
      refine z_calll (z_runS hX (m_common _ _ _ (a := s 24) (b := s 25) (by rw [k3]; exact k7) (by omega)) (va_cwS 2 hX.ts (lw_S q1645 q1646 q71 q1647) rfl rfl rfl (by decide +kernel) (zroom (by decide) (by decide))) dX1_finds_20 rfl rfl rfl (by first | exact Nat.le_of_ble_eq_true rfl | simp [va_rf_c, Value.category]) (zhf (by omega) (by omega))) (fun r_20 μ_20 h_20 => ?_)
      obtain ⟨rfl, rfl⟩ := h_20; rw [k3, k4]
      refine z_lstore_n hX (lv' := [_, _, _, _]) (Nat.le_of_ble_eq_true rfl) (by first | exact zpre_0 | exact zpre_n rfl | exact zpre_1 rfl rfl | exact zpre_1 rfl (va_rf_c _)) rfl rfl dX1_finds_23 ?_
      refine z_aload_n hX rfl (by first | rfl | exact va_rf_r _) dX1_finds_24 ?_
      refine z_aload_n hX rfl (by first | rfl | exact va_rf_r _) dX1_finds_25 ?_
      refine zm_get hX 24 (by decide) q1394 dX1_finds_26 rfl rfl ?_
      refine z_lload_n hX rfl dX1_finds_29 ?_
      refine z_ldivt hX (by omega) (by omega) (by omega) dX1_finds_30 ?_
      refine zm_putl hX hD 8 (by decide) q1378 dX1_finds_31 rfl mset_8 ?_
      refine z_aload_n hX rfl (by first | rfl | exact va_rf_r _) dX1_finds_34 ?_
      refine z_aload_n hX rfl (by first | rfl | exact va_rf_r _) dX1_finds_35 ?_
      refine zm_get hX 25 (by decide) q1395 dX1_finds_36 rfl rfl ?_
      refine z_lload_n hX rfl dX1_finds_39 ?_
      rw [k3, e1, s25, k4]; refine z_ldivt hX (by omega) (by omega) (by omega) dX1_finds_40 ?_; rw [e2]
      refine zm_putl hX hD 9 (by decide) q1379 dX1_finds_41 rfl mset_9 ?_
      refine z_aload_n hX rfl (by first | rfl | exact va_rf_r _) dX1_finds_44 ?_
      refine z_aload_n hX rfl (by first | rfl | exact va_rf_r _) dX1_finds_45 ?_
      refine zm_get hX 23 (by decide) q1393 dX1_finds_46 rfl rfl ?_
      refine zm_puti hX hD 7 (by decide) q1377 dX1_finds_49 rfl mset_7 ?_
      refine z_iconst hX dX1_finds_52 ?_
      refine z_istore_n hX (lv' := [_, _, _, _]) (Nat.le_of_ble_eq_true rfl) (by first | exact zpre_0 | exact zpre_n rfl | exact zpre_1 rfl rfl | exact zpre_1 rfl (va_rf_c _)) rfl dX1_finds_53 ?_
      rw [s23, k1]
      have h := copy q [] (A 6) rfl (fun i e h => by simp at h)
      rw [zg_id] at h
      exact h
    · exact absurd (k1.symm.trans h_6) (by omega)
