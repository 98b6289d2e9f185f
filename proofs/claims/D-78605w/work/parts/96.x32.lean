/-! X SIDE 32: pieces added -/
set_option maxRecDepth 100000
abbrev pcT : Type := (Int × Int) × Int × Int
def PL1 (μ : zM) (r : Nat) (p : pcT) : Prop := ∃ z b, μ r = some (zob 14 [.ref z, .ref b]) ∧ μ z = some (zlx p.1.1 p.1.2) ∧ μ b = some (zfr p.2.1 p.2.2)
def PL (μ : zM) (rs : List Nat) (ps : List pcT) : Prop := rs.length = ps.length ∧ ∀ (i : Nat) (r : Nat) (p : pcT), rs[i]? = some r → ps[i]? = some p → PL1 μ r p
theorem PL1.mono {μ μ' : zM} {r : Nat} {p : pcT} (h : PL1 μ r p) (k : ∀ q e, μ q = some e → kd e = 14 ∨ kd e = 13 ∨ kd e = 5 → μ' q = some e) : PL1 μ' r p := by
  obtain ⟨z, b, h1, h2, h3⟩ := h
  exact ⟨z, b, k _ _ h1 (Or.inl rfl), k _ _ h2 (Or.inr (Or.inl rfl)), k _ _ h3 (Or.inr (Or.inr rfl))⟩
theorem PL.mono {μ μ' : zM} {rs : List Nat} {ps : List pcT} (h : PL μ rs ps) (k : ∀ q e, μ q = some e → kd e = 14 ∨ kd e = 13 ∨ kd e = 5 → μ' q = some e) : PL μ' rs ps := ⟨h.1, fun i r p hr hp => (h.2 i r p hr hp).mono k⟩
theorem PL.snoc {μ : zM} {rs : List Nat} {ps : List pcT} (h : PL μ rs ps) {r : Nat} {p : pcT} (hp : PL1 μ r p) : PL μ (rs ++ [r]) (ps ++ [p]) := by
  refine ⟨by rw [List.length_append, List.length_append, h.1]; rfl, fun i r' p' hr' hp' => ?_⟩
  by_cases q : i < rs.length
  · rw [List.getElem?_append_left q] at hr'
    rw [List.getElem?_append_left (by rw [← h.1]; exact q)] at hp'
    exact h.2 i r' p' hr' hp'
  · rw [List.getElem?_append_right (by omega)] at hr'
    rw [List.getElem?_append_right (by rw [← h.1]; omega), ← h.1] at hp'
    by_cases q2 : i - rs.length = 0
    · rw [q2] at hr' hp'
      simp only [List.getElem?_cons_zero, Option.some.injEq] at hr' hp'
      subst hr'
      subst hp'
      exact hp
    · rw [List.getElem?_eq_none (by simp only [List.length_singleton]; omega)] at hr'
      cases hr'
theorem PL.el {μ : zM} {rs : List Nat} {ps : List pcT} (h : PL μ rs ps) : ∀ r ∈ rs, zel RX16 μ r := fun r hr => by
  obtain ⟨i, hi, hri⟩ := List.mem_iff_getElem.mp hr
  have h1 : rs[i]? = some r := by rw [List.getElem?_eq_getElem hi, hri]
  have h2 : i < ps.length := by rw [← h.1]; exact hi
  obtain ⟨z, b, h3, -⟩ := h.2 i r ps[i] h1 (List.getElem?_eq_getElem h2)
  exact ⟨14, _, TX16, 2, h3, rfl⟩
theorem gw_le {n : Nat} (h : n ≤ 130) : gw n ≤ 195 := by
  unfold gw
  omega
/-- a piece added behind others -/
theorem x_addPi (l : Launch) (E : zE) {μ : zM} {L arr c : Nat} {rs : List Nat} {ps : List pcT} (h : AL E μ L arr c rs) (hP : PL μ rs ps) (h1 : 1 ≤ rs.length) (h130 : rs.length ≤ 130) {v z b : Nat} (hv : μ v = some (zob 14 [.ref z, .ref b])) : Met l yJ2_add (ws_ yJ2_add cJ2_add 2 (some .boolean)) (zR 6 1 (gw rs.length)) (va_Pc [.ref L, .ref v] (zPre E μ)) (zQb E (fun r μ' => true = r ∧ adP E μ L arr rs v c (gw rs.length) μ')) 1 (gw rs.length) (zA E) := by
  have hvL : v ≠ L := by
    obtain ⟨e, e1, e2⟩ := h.k17
    exact zkne hv e1 (by rw [e2]; show (14 : Nat) ≠ 17; decide)
  refine x_add l E h (ci := 14) (C := RX16) (T := TX16) (N := 2) rfl q1811 hv hvL (fun μ1 hA hk hf => ⟨by unfold gw; omega, ?_⟩)
  subst hf
  refine x_growF l E rfl hA (by omega) (Or.inl h1) (C := RX16) q1811 (fun r hr => ?_)
  obtain ⟨ci, fs, T, N, m1, m2⟩ := hP.el r hr
  have hrL : r ≠ L := by
    obtain ⟨e, e1, e2⟩ := h.k17
    obtain ⟨i, hi, hri⟩ := List.mem_iff_getElem.mp hr
    obtain ⟨z', b', h3, -⟩ := hP.2 i r (ps[i]'(by rw [← hP.1]; exact hi)) (by rw [List.getElem?_eq_getElem hi, hri]) (List.getElem?_eq_getElem _)
    exact zkne h3 e1 (by rw [e2]; show (14 : Nat) ≠ 17; decide)
  exact ⟨ci, fs, T, N, (hk r hrL).trans m1, m2⟩
def lnOk (p : Int × Int) : Prop := (-20000 ≤ p.1 ∧ p.1 ≤ 20000) ∧ -20000 ≤ p.2 ∧ p.2 ≤ 20000
/-- the recursion between two lines, with its count of calls -/
def apT (a : Int → Int) (B : Nat) (f t : Int) : Nat → Nat → Int × Int → Int × Int → List pcT → Prop
  | 0, _, _, _, _ => False
  | k + 1, N, p, q, L => lnOk p ∧ lnOk q ∧ ((p = q ∧ L = []) ∨ (p ≠ q ∧ q.2 < p.2 ∧ ∃ m, lsF a B (frN (q.1 - p.1) (p.2 - q.2)) (frD (q.1 - p.1) (p.2 - q.2)) false f t = some m ∧ lnOk m ∧ ((frD (q.1 - p.1) (p.2 - q.2) * m.1 + frN (q.1 - p.1) (p.2 - q.2) * m.2 = frD (q.1 - p.1) (p.2 - q.2) * p.1 + frN (q.1 - p.1) (p.2 - q.2) * p.2 ∧ L = [(q, frN (q.1 - p.1) (p.2 - q.2), frD (q.1 - p.1) (p.2 - q.2))] ∧ 1 ≤ N) ∨ (frD (q.1 - p.1) (p.2 - q.2) * m.1 + frN (q.1 - p.1) (p.2 - q.2) * m.2 ≠ frD (q.1 - p.1) (p.2 - q.2) * p.1 + frN (q.1 - p.1) (p.2 - q.2) * p.2 ∧ ∃ L1 L2 N1 N2, apT a B f t k N1 p m L1 ∧ apT a B f t k N2 m q L2 ∧ L = L1 ++ L2 ∧ 1 + N1 + N2 ≤ N))))
/-- what is there stays there, changed or not -/
def zDm (μ μ' : zM) : Prop := ∀ y, μ' y = none → μ y = none
theorem zDm.tr {a b c : zM} (h : zDm a b) (k : zDm b c) : zDm a c := fun y hy => h y (k y hy)
theorem zKp.dm {μ μ' : zM} (h : zKp μ μ') : zDm μ μ' := fun y hy => h.no hy
theorem zKx.dm1 {w : Nat} {μ μ' : zM} {e : va_E} (h : zKx [w] μ μ') (hw : μ' w = some e) : zDm μ μ' := fun y hy => by
  cases hx : μ y with
  | none => rfl
  | some e' =>
    have := h y e' hx (by
      simp only [List.mem_cons, List.not_mem_nil, or_false]
      intro q
      rw [q, hw] at hy
      cases hy)
    rw [hy] at this
    cases this
theorem x_addPieces (l : Launch) (E : zE) {μ0 : zM} {x : Nat} {a : Int → Int} (hG : xG E μ0 x a) (hg : gV a) {w : Nat} {f t : Int} {B li : Nat} (hli : μ0 li = none) (hf : 0 ≤ f ∧ f ≤ 7) (ht : 0 ≤ t ∧ t ≤ 7) (hB : B < 256) {al : Nat} (hal : μ0 al = none) : ∀ (k N : Nat) {μ : zM} {lf : Int → Option Nat} {p q : Int × Int} {L : List pcT} {r1 r2 arr c : Nat} {rs : List Nat} {ps : List pcT}, apT a B f t k N p q L → zKp μ0 μ → μ w = some (zob 12 [.int (zI f), .int (zI t), .int (zI (B : Int)), .ref li, .ref x]) → μ li = some (zaq E 4 8 lf) → μ r1 = some (zlx p.1 p.2) → μ r2 = some (zlx q.1 q.2) → AL E μ al arr c rs → μ0 arr = none → arr ≠ li → PL μ rs ps → 1 ≤ rs.length → rs.length + L.length ≤ 130 → Met l yX0_addPieces (ws_ yX0_addPieces cX0_addPieces 7 none) (zR (7 + k) (148 * N) (600 * N)) (va_Pc [.ref x, .ref w, .ref r1, .ref r2, .ref al] (zPre E μ)) (zQv E (fun μ' => ∃ arr' c' rs', AL E μ' al arr' c' rs' ∧ PL μ' rs' (ps ++ L) ∧ (arr' = arr ∨ μ arr' = none) ∧ (∃ lf', μ' li = some (zaq E 4 8 lf')) ∧ zKx [li, al, arr] μ μ' ∧ zDm μ μ')) (148 * N) (600 * N) (zA E) := by
  have hG0 := hG
  obtain ⟨L0, arr0, cp0, rs0, h0', mk0, tx0, tl0, fo0, pc0, hs0, hx, hE⟩ := hG0
  intro k
  induction k with
  | zero =>
    intro N μ lf p q L r1 r2 arr c rs ps hT
    exact hT.elim
  | succ k ih =>
    intro N μ lf p q L r1 r2 arr c rs ps hT k0 hw hla hr1 hr2 hA hna hne hP h1 h130
    obtain ⟨⟨p1, p2⟩, ⟨q1, q2⟩, hT⟩ := hT
    have hx1 := k0 _ _ hx
    have hr1' : μ r1 = some (zob 13 [.long (zJ p.1), .long (zJ p.2)]) := hr1
    have hr2' : μ r2 = some (zob 13 [.long (zJ q.1), .long (zJ q.2)]) := hr2
    obtain ⟨ea, ea1, ea2⟩ := hA.k17
    obtain ⟨eb, eb1, eb2⟩ := hA.k104
    refine zmet (cc := cX0_addPieces) [_, _, _, _, _, _, _] (by decide) (Nat.le_of_ble_eq_true rfl) rfl rfl ?_
    intro X hl hX hinit; subst hl
    have hX : zOK X _ cX0_addPieces RX0 none 7 := hX
    generalize hQ : MQ _ _ _ _ _ _ _ = Q
    refine z_aload_n hX rfl (by first | rfl | exact va_rf_r _) dX0_addPieces_0 ?_
    refine z_aload_n hX rfl (by first | rfl | exact va_rf_r _) dX0_addPieces_1 ?_
    refine z_callb (z_runV hX (x_liS _ _ hr1 hr2 (by unfold lR; omega) (by unfold lR; omega) (by unfold lR; omega) (by unfold lR; omega)) (cwV 1 hX.ts (lw_V q1238 q1239 q1240 q94 q1241) rfl rfl rfl (by decide +kernel) (zroom (by first | decide | omega) (by decide))) dX0_addPieces_2 (by first | assumption | exact zu_s _ _ _ | exact zu_o (by assumption) (by assumption) | exact zu_o (by assumption) (zu_o (by assumption) (by assumption)) | exact (zu_o (by first | assumption | exact Ne.symm (by assumption)) (zu_s _ _ _)) | exact (zu_o (by first | assumption | exact Ne.symm (by assumption)) (by assumption)) | exact (zu_o (by first | assumption | exact Ne.symm (by assumption)) (zu_o (by first | assumption | exact Ne.symm (by assumption)) (zu_s _ _ _))) | exact (zu_o (by first | assumption | exact Ne.symm (by assumption)) (zu_o (by first | assumption | exact Ne.symm (by assumption)) (by assumption))) | exact (zu_o (by first | assumption | exact Ne.symm (by assumption)) (zu_o (by first | assumption | exact Ne.symm (by assumption)) (zu_o (by first | assumption | exact Ne.symm (by assumption)) (zu_s _ _ _)))) | exact (zu_o (by first | assumption | exact Ne.symm (by assumption)) (zu_o (by first | assumption | exact Ne.symm (by assumption)) (zu_o (by first | assumption | exact Ne.symm (by assumption)) (by assumption)))) | exact (zu_o (by first | assumption | exact Ne.symm (by assumption)) (zu_o (by first | assumption | exact Ne.symm (by assumption)) (zu_o (by first | assumption | exact Ne.symm (by assumption)) (zu_o (by first | assumption | exact Ne.symm (by assumption)) (zu_s _ _ _))))) | exact (zu_o (by first | assumption | exact Ne.symm (by assumption)) (zu_o (by first | assumption | exact Ne.symm (by assumption)) (zu_o (by first | assumption | exact Ne.symm (by assumption)) (zu_o (by first | assumption | exact Ne.symm (by assumption)) (by assumption))))) | exact AL.at (by assumption) | exact EL.at (by assumption) | exact LL.at (by assumption)) (ci := 13) rfl rfl rfl rfl (by first | exact Nat.le_of_ble_eq_true rfl | simp [va_rf_c, Value.category]) (zhf (by omega) (by omega))) (fun r_2 μ_2 h_2 => ?_)
    obtain ⟨rfl, rfl⟩ := h_2
    rcases hT with ⟨he, hL⟩ | ⟨hpq, hs, m, hm, ⟨m1, m2⟩, hT⟩
    · subst hL
      have : decide (p.1 = q.1 ∧ p.2 = q.2) = true := decide_eq_true ⟨congrArg Prod.fst he, congrArg Prod.snd he⟩
      rw [this]
      refine z_if_eq_b hX dX0_addPieces_5 (tgt := 9) rfl (fun h_5 => ?_) (fun h_5 => ?_)
      · cases h_5
      · (try rw [← hQ])
        refine z_return hX dX0_addPieces_8 (by omega) (by omega) ?_
        rw [List.append_nil]
        exact ⟨arr, c, rs, hA, hP, Or.inl rfl, ⟨_, hla⟩, zKx.rf _ _, fun _ h => h⟩
    · have : decide (p.1 = q.1 ∧ p.2 = q.2) = false := decide_eq_false (fun h => hpq (Prod.ext h.1 h.2))
      rw [this]
      refine z_if_eq_b hX dX0_addPieces_5 (tgt := 9) rfl (fun h_5 => ?_) (fun h_5 => ?_)
      · have d1 := frD_pos (n := q.1 - p.1) (d := p.2 - q.2) (by omega)
        have d2 := frD_le (n := q.1 - p.1) (d := p.2 - q.2) (by omega)
        have d3 := frN_le (n := q.1 - p.1) (d := p.2 - q.2) (M := 40000) (by omega) (by omega) (by omega)
        have hN1 : 1 ≤ N := by
          rcases hT with ⟨_, _, h⟩ | ⟨_, L1, L2, N1, N2, _, _, _, h⟩ <;> omega
        refine z_new hX (C := RX5) (T := TX5) (N := 2) (ci := 5) rfl in_X5 tyX5 tyX5_ok q673 q674 q84 dX0_addPieces_9 (fs := [.long (zJ 0), .long (zJ 0)]) (by decide) (by omega) (by omega) (fun q_9 f_9 => ?_)
        have kn := zKp.new f_9 (zfr 0 0)
        have s1 : (zu μ q_9 (zfr 0 0)) r1 = some (zob 13 [.long (zJ p.1), .long (zJ p.2)]) := kn _ _ hr1
        have s2 : (zu μ q_9 (zfr 0 0)) r2 = some (zob 13 [.long (zJ q.1), .long (zJ q.2)]) := kn _ _ hr2
        refine z_dup hX (by first | rfl | exact va_rf_c _) dX0_addPieces_12 ?_
        refine z_aload_n hX rfl (by first | rfl | exact va_rf_r _) dX0_addPieces_13 ?_
        refine z_getN hX (C := RX15) (T := TX15) (N := 2) (ci := 13) rfl in_X15 0 (by decide) q1199 (Or.inl rfl) dX0_addPieces_14 (by first | assumption | exact zu_s _ _ _ | exact zu_o (by assumption) (by assumption) | exact zu_o (by assumption) (zu_o (by assumption) (by assumption)) | exact (zu_o (by first | assumption | exact Ne.symm (by assumption)) (zu_s _ _ _)) | exact (zu_o (by first | assumption | exact Ne.symm (by assumption)) (by assumption)) | exact (zu_o (by first | assumption | exact Ne.symm (by assumption)) (zu_o (by first | assumption | exact Ne.symm (by assumption)) (zu_s _ _ _))) | exact (zu_o (by first | assumption | exact Ne.symm (by assumption)) (zu_o (by first | assumption | exact Ne.symm (by assumption)) (by assumption))) | exact (zu_o (by first | assumption | exact Ne.symm (by assumption)) (zu_o (by first | assumption | exact Ne.symm (by assumption)) (zu_o (by first | assumption | exact Ne.symm (by assumption)) (zu_s _ _ _)))) | exact (zu_o (by first | assumption | exact Ne.symm (by assumption)) (zu_o (by first | assumption | exact Ne.symm (by assumption)) (zu_o (by first | assumption | exact Ne.symm (by assumption)) (by assumption)))) | exact (zu_o (by first | assumption | exact Ne.symm (by assumption)) (zu_o (by first | assumption | exact Ne.symm (by assumption)) (zu_o (by first | assumption | exact Ne.symm (by assumption)) (zu_o (by first | assumption | exact Ne.symm (by assumption)) (zu_s _ _ _))))) | exact (zu_o (by first | assumption | exact Ne.symm (by assumption)) (zu_o (by first | assumption | exact Ne.symm (by assumption)) (zu_o (by first | assumption | exact Ne.symm (by assumption)) (zu_o (by first | assumption | exact Ne.symm (by assumption)) (by assumption))))) | exact AL.at (by assumption) | exact EL.at (by assumption) | exact LL.at (by assumption)) rfl ?_
        refine z_aload_n hX rfl (by first | rfl | exact va_rf_r _) dX0_addPieces_17 ?_
        refine z_getN hX (C := RX15) (T := TX15) (N := 2) (ci := 13) rfl in_X15 0 (by decide) q1199 (Or.inl rfl) dX0_addPieces_18 (by first | assumption | exact zu_s _ _ _ | exact zu_o (by assumption) (by assumption) | exact zu_o (by assumption) (zu_o (by assumption) (by assumption)) | exact (zu_o (by first | assumption | exact Ne.symm (by assumption)) (zu_s _ _ _)) | exact (zu_o (by first | assumption | exact Ne.symm (by assumption)) (by assumption)) | exact (zu_o (by first | assumption | exact Ne.symm (by assumption)) (zu_o (by first | assumption | exact Ne.symm (by assumption)) (zu_s _ _ _))) | exact (zu_o (by first | assumption | exact Ne.symm (by assumption)) (zu_o (by first | assumption | exact Ne.symm (by assumption)) (by assumption))) | exact (zu_o (by first | assumption | exact Ne.symm (by assumption)) (zu_o (by first | assumption | exact Ne.symm (by assumption)) (zu_o (by first | assumption | exact Ne.symm (by assumption)) (zu_s _ _ _)))) | exact (zu_o (by first | assumption | exact Ne.symm (by assumption)) (zu_o (by first | assumption | exact Ne.symm (by assumption)) (zu_o (by first | assumption | exact Ne.symm (by assumption)) (by assumption)))) | exact (zu_o (by first | assumption | exact Ne.symm (by assumption)) (zu_o (by first | assumption | exact Ne.symm (by assumption)) (zu_o (by first | assumption | exact Ne.symm (by assumption)) (zu_o (by first | assumption | exact Ne.symm (by assumption)) (zu_s _ _ _))))) | exact (zu_o (by first | assumption | exact Ne.symm (by assumption)) (zu_o (by first | assumption | exact Ne.symm (by assumption)) (zu_o (by first | assumption | exact Ne.symm (by assumption)) (zu_o (by first | assumption | exact Ne.symm (by assumption)) (by assumption))))) | exact AL.at (by assumption) | exact EL.at (by assumption) | exact LL.at (by assumption)) rfl ?_
        refine z_lsub hX dX0_addPieces_21 ?_
        refine z_aload_n hX rfl (by first | rfl | exact va_rf_r _) dX0_addPieces_22 ?_
        refine z_getN hX (C := RX15) (T := TX15) (N := 2) (ci := 13) rfl in_X15 1 (by decide) q1203 (Or.inl rfl) dX0_addPieces_23 (by first | assumption | exact zu_s _ _ _ | exact zu_o (by assumption) (by assumption) | exact zu_o (by assumption) (zu_o (by assumption) (by assumption)) | exact (zu_o (by first | assumption | exact Ne.symm (by assumption)) (zu_s _ _ _)) | exact (zu_o (by first | assumption | exact Ne.symm (by assumption)) (by assumption)) | exact (zu_o (by first | assumption | exact Ne.symm (by assumption)) (zu_o (by first | assumption | exact Ne.symm (by assumption)) (zu_s _ _ _))) | exact (zu_o (by first | assumption | exact Ne.symm (by assumption)) (zu_o (by first | assumption | exact Ne.symm (by assumption)) (by assumption))) | exact (zu_o (by first | assumption | exact Ne.symm (by assumption)) (zu_o (by first | assumption | exact Ne.symm (by assumption)) (zu_o (by first | assumption | exact Ne.symm (by assumption)) (zu_s _ _ _)))) | exact (zu_o (by first | assumption | exact Ne.symm (by assumption)) (zu_o (by first | assumption | exact Ne.symm (by assumption)) (zu_o (by first | assumption | exact Ne.symm (by assumption)) (by assumption)))) | exact (zu_o (by first | assumption | exact Ne.symm (by assumption)) (zu_o (by first | assumption | exact Ne.symm (by assumption)) (zu_o (by first | assumption | exact Ne.symm (by assumption)) (zu_o (by first | assumption | exact Ne.symm (by assumption)) (zu_s _ _ _))))) | exact (zu_o (by first | assumption | exact Ne.symm (by assumption)) (zu_o (by first | assumption | exact Ne.symm (by assumption)) (zu_o (by first | assumption | exact Ne.symm (by assumption)) (zu_o (by first | assumption | exact Ne.symm (by assumption)) (by assumption))))) | exact AL.at (by assumption) | exact EL.at (by assumption) | exact LL.at (by assumption)) rfl ?_
        refine z_aload_n hX rfl (by first | rfl | exact va_rf_r _) dX0_addPieces_26 ?_
        refine z_getN hX (C := RX15) (T := TX15) (N := 2) (ci := 13) rfl in_X15 1 (by decide) q1203 (Or.inl rfl) dX0_addPieces_27 (by first | assumption | exact zu_s _ _ _ | exact zu_o (by assumption) (by assumption) | exact zu_o (by assumption) (zu_o (by assumption) (by assumption)) | exact (zu_o (by first | assumption | exact Ne.symm (by assumption)) (zu_s _ _ _)) | exact (zu_o (by first | assumption | exact Ne.symm (by assumption)) (by assumption)) | exact (zu_o (by first | assumption | exact Ne.symm (by assumption)) (zu_o (by first | assumption | exact Ne.symm (by assumption)) (zu_s _ _ _))) | exact (zu_o (by first | assumption | exact Ne.symm (by assumption)) (zu_o (by first | assumption | exact Ne.symm (by assumption)) (by assumption))) | exact (zu_o (by first | assumption | exact Ne.symm (by assumption)) (zu_o (by first | assumption | exact Ne.symm (by assumption)) (zu_o (by first | assumption | exact Ne.symm (by assumption)) (zu_s _ _ _)))) | exact (zu_o (by first | assumption | exact Ne.symm (by assumption)) (zu_o (by first | assumption | exact Ne.symm (by assumption)) (zu_o (by first | assumption | exact Ne.symm (by assumption)) (by assumption)))) | exact (zu_o (by first | assumption | exact Ne.symm (by assumption)) (zu_o (by first | assumption | exact Ne.symm (by assumption)) (zu_o (by first | assumption | exact Ne.symm (by assumption)) (zu_o (by first | assumption | exact Ne.symm (by assumption)) (zu_s _ _ _))))) | exact (zu_o (by first | assumption | exact Ne.symm (by assumption)) (zu_o (by first | assumption | exact Ne.symm (by assumption)) (zu_o (by first | assumption | exact Ne.symm (by assumption)) (zu_o (by first | assumption | exact Ne.symm (by assumption)) (by assumption))))) | exact AL.at (by assumption) | exact EL.at (by assumption) | exact LL.at (by assumption)) rfl ?_
        refine z_lsub hX dX0_addPieces_30 ?_
        refine z_callv (z_runI hX (x_frI (n := q.1 - p.1) (d := p.2 - q.2) _ _ (zu_s _ _ _) (by unfold lB; omega) (by unfold lB; omega) (by omega)) (cwI 2 hX.ts (lw_meth q677) rfl rfl rfl (hX.t q84) (hX.t q675) (hX.t q676) rfl (by decide +kernel) (zroom (by first | decide | omega) (by decide))) dX0_addPieces_31 rfl rfl rfl (by first | exact Nat.le_of_ble_eq_true rfl | simp [va_rf_c, Value.category]) (zhf (by omega) (by omega))) (fun μ_31 h_31 => ?_)
        obtain rfl := h_31; rw [zu_zu]
        refine z_astore hX (lv' := [_, _, _, _, _, _, _]) (by first | rfl | exact va_rf_r _) (Nat.le_of_ble_eq_true rfl) (by first | exact zpre_0 | exact zpre_n rfl | exact zpre_1 rfl rfl | exact zpre_1 rfl (va_rf_c _)) rfl dX0_addPieces_34 ?_
        generalize frN (q.1 - p.1) (p.2 - q.2) = n at *
        generalize frD (q.1 - p.1) (p.2 - q.2) = d at *
        have kq := zKp.new f_9 (zfr n d)
        have kq0 := k0.tr kq
        have tw := kq _ _ hw
        have tl := kq _ _ hla
        have tf := zu_s μ q_9 (zfr n d)
        refine z_aload_n hX rfl (by first | rfl | exact va_rf_r _) dX0_addPieces_36 ?_
        refine z_aload hX rfl (by first | rfl | exact va_rf_r _) dX0_addPieces_37 ?_
        refine z_iconst hX dX0_addPieces_39 ?_
        refine z_callq (z_runV hX (x_paLeast (st := false) _ _ hG kq0 hg hli tw hf ht hB tl tf (by omega) (by omega)) (cwV 2 hX.ts (lw_V q1187 q1188 q1189 q93 q1190) rfl rfl rfl (by decide +kernel) (zroom (by first | decide | omega) (by decide))) dX0_addPieces_40 (by first | assumption | exact zu_s _ _ _ | exact zu_o (by assumption) (by assumption) | exact zu_o (by assumption) (zu_o (by assumption) (by assumption)) | exact (zu_o (by first | assumption | exact Ne.symm (by assumption)) (zu_s _ _ _)) | exact (zu_o (by first | assumption | exact Ne.symm (by assumption)) (by assumption)) | exact (zu_o (by first | assumption | exact Ne.symm (by assumption)) (zu_o (by first | assumption | exact Ne.symm (by assumption)) (zu_s _ _ _))) | exact (zu_o (by first | assumption | exact Ne.symm (by assumption)) (zu_o (by first | assumption | exact Ne.symm (by assumption)) (by assumption))) | exact (zu_o (by first | assumption | exact Ne.symm (by assumption)) (zu_o (by first | assumption | exact Ne.symm (by assumption)) (zu_o (by first | assumption | exact Ne.symm (by assumption)) (zu_s _ _ _)))) | exact (zu_o (by first | assumption | exact Ne.symm (by assumption)) (zu_o (by first | assumption | exact Ne.symm (by assumption)) (zu_o (by first | assumption | exact Ne.symm (by assumption)) (by assumption)))) | exact (zu_o (by first | assumption | exact Ne.symm (by assumption)) (zu_o (by first | assumption | exact Ne.symm (by assumption)) (zu_o (by first | assumption | exact Ne.symm (by assumption)) (zu_o (by first | assumption | exact Ne.symm (by assumption)) (zu_s _ _ _))))) | exact (zu_o (by first | assumption | exact Ne.symm (by assumption)) (zu_o (by first | assumption | exact Ne.symm (by assumption)) (zu_o (by first | assumption | exact Ne.symm (by assumption)) (zu_o (by first | assumption | exact Ne.symm (by assumption)) (by assumption))))) | exact AL.at (by assumption) | exact EL.at (by assumption) | exact LL.at (by assumption)) (ci := 12) rfl rfl rfl rfl (by first | exact Nat.le_of_ble_eq_true rfl | simp [va_rf_c, Value.category]) (zhf (by omega) (by omega))) (fun r_40 μ_40 h_40 => ?_)
        obtain ⟨hls, ⟨lf2, hlf2⟩, hk2⟩ := h_40
        have kx : ∀ {μ3}, zKx [li] (zu μ q_9 (zfr n d)) μ3 → zKp μ0 μ3 := fun {μ3} k z e hz => k z e (kq0 z e hz) (by simpa using zne hz hli)
        have k02 := kx hk2
        have kind : ∀ z e, (zu μ q_9 (zfr n d)) z = some e → kd e ≠ 104 → μ_40 z = some e := fun z e hz hn => hk2 z e hz (by simpa using zkne hz tl (by show kd e ≠ 104; exact hn))
        rw [hm] at hls
        obtain ⟨z, rfl, hz⟩ := hls
        have hw2 := kind _ _ tw (by show (12 : Nat) ≠ 104; decide)
        have tf2 := kind _ _ tf (by show (5 : Nat) ≠ 104; decide)
        have hr12 := kind _ _ (kq _ _ hr1) (by show (13 : Nat) ≠ 104; decide)
        have hr22 := kind _ _ (kq _ _ hr2) (by show (13 : Nat) ≠ 104; decide)
        have hx2 := k02 _ _ hx
        have hz' : μ_40 z = some (zob 13 [.long (zJ m.1), .long (zJ m.2)]) := hz
        have hali : al ≠ li := zkne ea1 hla (by rw [ea2]; show (17 : Nat) ≠ 104; decide)
        have hA2 : AL E μ_40 al arr c rs := (hA.mono kq).monox hk2 (by simpa using hali) (by simpa using hne)
        have hP2 : PL μ_40 rs ps := hP.mono (fun q e hq hk => kind q e (kq _ _ hq) (by omega))
        have b1 := mul_r (q := d) (w := m.1) (M := 40000) (N := 20000) (by omega) (by omega)
        have b2 := mul_r (q := n) (w := m.2) (M := 40000) (N := 20000) (by omega) (by omega)
        have b3 := mul_r (q := d) (w := p.1) (M := 40000) (N := 20000) (by omega) (by omega)
        have b4 := mul_r (q := n) (w := p.2) (M := 40000) (N := 20000) (by omega) (by omega)
        have hgw := gw_le (n := rs.length) (by omega)
        obtain ⟨ea', ea1', ea2'⟩ := hA2.k17
        obtain ⟨eb', eb1', eb2'⟩ := hA2.k104
        refine z_astore hX (lv' := [_, _, _, _, _, _, _]) (by first | rfl | exact va_rf_r _) (Nat.le_of_ble_eq_true rfl) (by first | exact zpre_0 | exact zpre_n rfl | exact zpre_1 rfl rfl | exact zpre_1 rfl (va_rf_c _)) rfl dX0_addPieces_43 ?_
        refine z_aload hX rfl (by first | rfl | exact va_rf_r _) dX0_addPieces_45 ?_
        refine z_aload hX rfl (by first | rfl | exact va_rf_r _) dX0_addPieces_47 ?_
        refine z_calll (z_runV hX (x_liA _ _ hz tf2) (cwV 1 hX.ts (lw_V q1242 q1218 q1219 q94 q1220) rfl rfl rfl (by decide +kernel) (zroom (by first | decide | omega) (by decide))) dX0_addPieces_49 (by first | assumption | exact zu_s _ _ _ | exact zu_o (by assumption) (by assumption) | exact zu_o (by assumption) (zu_o (by assumption) (by assumption)) | exact (zu_o (by first | assumption | exact Ne.symm (by assumption)) (zu_s _ _ _)) | exact (zu_o (by first | assumption | exact Ne.symm (by assumption)) (by assumption)) | exact (zu_o (by first | assumption | exact Ne.symm (by assumption)) (zu_o (by first | assumption | exact Ne.symm (by assumption)) (zu_s _ _ _))) | exact (zu_o (by first | assumption | exact Ne.symm (by assumption)) (zu_o (by first | assumption | exact Ne.symm (by assumption)) (by assumption))) | exact (zu_o (by first | assumption | exact Ne.symm (by assumption)) (zu_o (by first | assumption | exact Ne.symm (by assumption)) (zu_o (by first | assumption | exact Ne.symm (by assumption)) (zu_s _ _ _)))) | exact (zu_o (by first | assumption | exact Ne.symm (by assumption)) (zu_o (by first | assumption | exact Ne.symm (by assumption)) (zu_o (by first | assumption | exact Ne.symm (by assumption)) (by assumption)))) | exact (zu_o (by first | assumption | exact Ne.symm (by assumption)) (zu_o (by first | assumption | exact Ne.symm (by assumption)) (zu_o (by first | assumption | exact Ne.symm (by assumption)) (zu_o (by first | assumption | exact Ne.symm (by assumption)) (zu_s _ _ _))))) | exact (zu_o (by first | assumption | exact Ne.symm (by assumption)) (zu_o (by first | assumption | exact Ne.symm (by assumption)) (zu_o (by first | assumption | exact Ne.symm (by assumption)) (zu_o (by first | assumption | exact Ne.symm (by assumption)) (by assumption))))) | exact AL.at (by assumption) | exact EL.at (by assumption) | exact LL.at (by assumption)) (ci := 13) rfl rfl rfl rfl (by first | exact Nat.le_of_ble_eq_true rfl | simp [va_rf_c, Value.category]) (zhf (by omega) (by omega))) (fun r_49 μ_49 h_49 => ?_)
        obtain ⟨rfl, rfl⟩ := h_49
        refine z_aload_n hX rfl (by first | rfl | exact va_rf_r _) dX0_addPieces_52 ?_
        refine z_aload hX rfl (by first | rfl | exact va_rf_r _) dX0_addPieces_53 ?_
        refine z_calll (z_runV hX (x_liA _ _ hr12 tf2) (cwV 1 hX.ts (lw_V q1242 q1218 q1219 q94 q1220) rfl rfl rfl (by decide +kernel) (zroom (by first | decide | omega) (by decide))) dX0_addPieces_55 (by first | assumption | exact zu_s _ _ _ | exact zu_o (by assumption) (by assumption) | exact zu_o (by assumption) (zu_o (by assumption) (by assumption)) | exact (zu_o (by first | assumption | exact Ne.symm (by assumption)) (zu_s _ _ _)) | exact (zu_o (by first | assumption | exact Ne.symm (by assumption)) (by assumption)) | exact (zu_o (by first | assumption | exact Ne.symm (by assumption)) (zu_o (by first | assumption | exact Ne.symm (by assumption)) (zu_s _ _ _))) | exact (zu_o (by first | assumption | exact Ne.symm (by assumption)) (zu_o (by first | assumption | exact Ne.symm (by assumption)) (by assumption))) | exact (zu_o (by first | assumption | exact Ne.symm (by assumption)) (zu_o (by first | assumption | exact Ne.symm (by assumption)) (zu_o (by first | assumption | exact Ne.symm (by assumption)) (zu_s _ _ _)))) | exact (zu_o (by first | assumption | exact Ne.symm (by assumption)) (zu_o (by first | assumption | exact Ne.symm (by assumption)) (zu_o (by first | assumption | exact Ne.symm (by assumption)) (by assumption)))) | exact (zu_o (by first | assumption | exact Ne.symm (by assumption)) (zu_o (by first | assumption | exact Ne.symm (by assumption)) (zu_o (by first | assumption | exact Ne.symm (by assumption)) (zu_o (by first | assumption | exact Ne.symm (by assumption)) (zu_s _ _ _))))) | exact (zu_o (by first | assumption | exact Ne.symm (by assumption)) (zu_o (by first | assumption | exact Ne.symm (by assumption)) (zu_o (by first | assumption | exact Ne.symm (by assumption)) (zu_o (by first | assumption | exact Ne.symm (by assumption)) (by assumption))))) | exact AL.at (by assumption) | exact EL.at (by assumption) | exact LL.at (by assumption)) (ci := 13) rfl rfl rfl rfl (by first | exact Nat.le_of_ble_eq_true rfl | simp [va_rf_c, Value.category]) (zhf (by omega) (by omega))) (fun r_55 μ_55 h_55 => ?_)
        obtain ⟨rfl, rfl⟩ := h_55
        refine z_lcmp_ne hX (by omega) (by omega) dX0_addPieces_58 dX0_addPieces_59 (tgt := 81) rfl (fun h_58 => ?_) (fun h_58 => ?_)
        · rcases hT with ⟨he, _, _⟩ | ⟨he, L1, L2, N1, N2, hT1, hT2, rfl, hN⟩
          · exfalso; omega
          · rw [List.length_append] at h130
            refine z_aload_n hX rfl (by first | rfl | exact va_rf_r _) dX0_addPieces_81 ?_
            refine z_aload_n hX rfl (by first | rfl | exact va_rf_r _) dX0_addPieces_82 ?_
            refine z_aload_n hX rfl (by first | rfl | exact va_rf_r _) dX0_addPieces_83 ?_
            refine z_aload hX rfl (by first | rfl | exact va_rf_r _) dX0_addPieces_84 ?_
            refine z_aload hX rfl (by first | rfl | exact va_rf_r _) dX0_addPieces_86 ?_
            refine z_callv (z_runV hX (ih N1 hT1 k02 hw2 hlf2 hr12 hz hA2 hna hne hP2 h1 (by omega)) (cwV 4 hX.ts (lw_V q1234 q1236 qs27 q65 q1237) rfl rfl rfl (by decide +kernel) (zroom (by first | decide | omega) (by decide))) dX0_addPieces_88 (by first | assumption | exact zu_s _ _ _ | exact zu_o (by assumption) (by assumption) | exact zu_o (by assumption) (zu_o (by assumption) (by assumption)) | exact (zu_o (by first | assumption | exact Ne.symm (by assumption)) (zu_s _ _ _)) | exact (zu_o (by first | assumption | exact Ne.symm (by assumption)) (by assumption)) | exact (zu_o (by first | assumption | exact Ne.symm (by assumption)) (zu_o (by first | assumption | exact Ne.symm (by assumption)) (zu_s _ _ _))) | exact (zu_o (by first | assumption | exact Ne.symm (by assumption)) (zu_o (by first | assumption | exact Ne.symm (by assumption)) (by assumption))) | exact (zu_o (by first | assumption | exact Ne.symm (by assumption)) (zu_o (by first | assumption | exact Ne.symm (by assumption)) (zu_o (by first | assumption | exact Ne.symm (by assumption)) (zu_s _ _ _)))) | exact (zu_o (by first | assumption | exact Ne.symm (by assumption)) (zu_o (by first | assumption | exact Ne.symm (by assumption)) (zu_o (by first | assumption | exact Ne.symm (by assumption)) (by assumption)))) | exact (zu_o (by first | assumption | exact Ne.symm (by assumption)) (zu_o (by first | assumption | exact Ne.symm (by assumption)) (zu_o (by first | assumption | exact Ne.symm (by assumption)) (zu_o (by first | assumption | exact Ne.symm (by assumption)) (zu_s _ _ _))))) | exact (zu_o (by first | assumption | exact Ne.symm (by assumption)) (zu_o (by first | assumption | exact Ne.symm (by assumption)) (zu_o (by first | assumption | exact Ne.symm (by assumption)) (zu_o (by first | assumption | exact Ne.symm (by assumption)) (by assumption))))) | exact AL.at (by assumption) | exact EL.at (by assumption) | exact LL.at (by assumption)) (ci := 0) rfl rfl rfl rfl (by first | exact Nat.le_of_ble_eq_true rfl | simp [va_rf_c, Value.category]) (zhf (by omega) (by omega))) (fun μ_88 h_88 => ?_)
            obtain ⟨arr3, c3, rs3, hA3, hP3, hr3, ⟨lf3, hlf3⟩, hk3, hd3⟩ := h_88
            have k03 : zKp μ0 μ_88 := fun y e hy => hk3 y e (k02 y e hy) (by
              simp only [List.mem_cons, List.not_mem_nil, or_false, not_or]
              exact ⟨zne hy hli, zne hy hal, zne hy hna⟩)
            have kind3 : ∀ y e, μ_40 y = some e → kd e ≠ 104 → kd e ≠ 17 → μ_88 y = some e := fun y e hy h1 h2 => hk3 y e hy (by
              simp only [List.mem_cons, List.not_mem_nil, or_false, not_or]
              exact ⟨zkne hy hlf2 h1, zkne hy ea1' (by rw [ea2']; exact h2), zkne hy eb1' (by rw [eb2']; exact h1)⟩)
            have hw3 := kind3 _ _ hw2 (by show (12 : Nat) ≠ 104; decide) (by show (12 : Nat) ≠ 17; decide)
            have hz3 := kind3 _ _ hz (by show (13 : Nat) ≠ 104; decide) (by show (13 : Nat) ≠ 17; decide)
            have hr23 := kind3 _ _ hr22 (by show (13 : Nat) ≠ 104; decide) (by show (13 : Nat) ≠ 17; decide)
            have hx3 := k03 _ _ hx
            have hna3 : μ0 arr3 = none := by
              rcases hr3 with q | q
              · rw [q]; exact hna
              · exact k02.no q
            have hne3 : arr3 ≠ li := by
              rcases hr3 with q | q
              · rw [q]; exact hne
              · exact Ne.symm (zne hlf2 q)
            have hl3 := hP3.1
            rw [List.length_append] at hl3
            have hl0 := hP.1
            refine z_aload_n hX rfl (by first | rfl | exact va_rf_r _) dX0_addPieces_91 ?_
            refine z_aload_n hX rfl (by first | rfl | exact va_rf_r _) dX0_addPieces_92 ?_
            refine z_aload hX rfl (by first | rfl | exact va_rf_r _) dX0_addPieces_93 ?_
            refine z_aload_n hX rfl (by first | rfl | exact va_rf_r _) dX0_addPieces_95 ?_
            refine z_aload hX rfl (by first | rfl | exact va_rf_r _) dX0_addPieces_96 ?_
            refine z_callv (z_runV hX (ih N2 hT2 k03 hw3 hlf3 hz3 hr23 hA3 hna3 hne3 hP3 (by omega) (by omega)) (cwV 4 hX.ts (lw_V q1234 q1236 qs27 q65 q1237) rfl rfl rfl (by decide +kernel) (zroom (by first | decide | omega) (by decide))) dX0_addPieces_98 (by first | assumption | exact zu_s _ _ _ | exact zu_o (by assumption) (by assumption) | exact zu_o (by assumption) (zu_o (by assumption) (by assumption)) | exact (zu_o (by first | assumption | exact Ne.symm (by assumption)) (zu_s _ _ _)) | exact (zu_o (by first | assumption | exact Ne.symm (by assumption)) (by assumption)) | exact (zu_o (by first | assumption | exact Ne.symm (by assumption)) (zu_o (by first | assumption | exact Ne.symm (by assumption)) (zu_s _ _ _))) | exact (zu_o (by first | assumption | exact Ne.symm (by assumption)) (zu_o (by first | assumption | exact Ne.symm (by assumption)) (by assumption))) | exact (zu_o (by first | assumption | exact Ne.symm (by assumption)) (zu_o (by first | assumption | exact Ne.symm (by assumption)) (zu_o (by first | assumption | exact Ne.symm (by assumption)) (zu_s _ _ _)))) | exact (zu_o (by first | assumption | exact Ne.symm (by assumption)) (zu_o (by first | assumption | exact Ne.symm (by assumption)) (zu_o (by first | assumption | exact Ne.symm (by assumption)) (by assumption)))) | exact (zu_o (by first | assumption | exact Ne.symm (by assumption)) (zu_o (by first | assumption | exact Ne.symm (by assumption)) (zu_o (by first | assumption | exact Ne.symm (by assumption)) (zu_o (by first | assumption | exact Ne.symm (by assumption)) (zu_s _ _ _))))) | exact (zu_o (by first | assumption | exact Ne.symm (by assumption)) (zu_o (by first | assumption | exact Ne.symm (by assumption)) (zu_o (by first | assumption | exact Ne.symm (by assumption)) (zu_o (by first | assumption | exact Ne.symm (by assumption)) (by assumption))))) | exact AL.at (by assumption) | exact EL.at (by assumption) | exact LL.at (by assumption)) (ci := 0) rfl rfl rfl rfl (by first | exact Nat.le_of_ble_eq_true rfl | simp [va_rf_c, Value.category]) (zhf (by omega) (by omega))) (fun μ_98 h_98 => ?_)
            obtain ⟨arr4, c4, rs4, hA4, hP4, hr4, ⟨lf4, hlf4⟩, hk4, hd4⟩ := h_98
            (try rw [← hQ])
            refine z_return hX dX0_addPieces_101 (by omega) (by omega) ?_
            have hd2 : zDm μ μ_40 := kq.dm.tr (hk2.dm1 hlf2)
            refine ⟨arr4, c4, rs4, hA4, by rw [← List.append_assoc]; exact hP4, ?_, ⟨lf4, hlf4⟩, fun y e hy hn => ?_, hd2.tr (hd3.tr hd4)⟩
            · rcases hr4 with q | q
              · rw [q]
                rcases hr3 with q | q
                · exact Or.inl q
                · exact Or.inr (hd2 _ q)
              · exact Or.inr (hd2 _ (hd3 _ q))
            · simp only [List.mem_cons, List.not_mem_nil, or_false, not_or] at hn
              have y2 := hk2 y e (kq y e hy) (by simpa using hn.1)
              have y3 := hk3 y e y2 (by simp only [List.mem_cons, List.not_mem_nil, or_false, not_or]; exact hn)
              refine hk4 y e y3 ?_
              simp only [List.mem_cons, List.not_mem_nil, or_false, not_or]
              refine ⟨hn.1, hn.2.1, ?_⟩
              rcases hr3 with q | q
              · rw [q]; exact hn.2.2
              · exact zne y2 q
        · rcases hT with ⟨he, rfl, _⟩ | ⟨he, L1, L2, N1, N2, hT1, hT2, rfl, hN⟩
          · refine z_aload hX rfl (by first | rfl | exact va_rf_r _) dX0_addPieces_62 ?_
            refine z_new hX (C := RX16) (T := TX16) (N := 2) (ci := 14) rfl in_X16 tyX16 tyX16_ok q1221 q1222 q95 dX0_addPieces_64 (fs := [.null, .null]) (by decide) (by omega) (by omega) (fun q_64 f_64 => ?_)
            have kp := zKp.new f_64 (zob 14 [.null, .null])
            have qp := zKp.new f_64 (zob 14 [.ref r2, .ref q_9])
            refine z_dup hX (by first | rfl | exact va_rf_c _) dX0_addPieces_67 ?_
            refine z_aload_n hX rfl (by first | rfl | exact va_rf_r _) dX0_addPieces_68 ?_
            refine z_aload hX rfl (by first | rfl | exact va_rf_r _) dX0_addPieces_69 ?_
            refine z_callv (z_runI hX (x_piI _ _ (zu_s _ _ _) (kp _ _ hr22) (kp _ _ tf2)) (cwI 2 hX.ts (lw_meth q1225) rfl rfl rfl (hX.t q95) (hX.t q1223) (hX.t q1224) rfl (by decide +kernel) (zroom (by first | decide | omega) (by decide))) dX0_addPieces_71 rfl rfl rfl (by first | exact Nat.le_of_ble_eq_true rfl | simp [va_rf_c, Value.category]) (zhf (by omega) (by omega))) (fun μ_71 h_71 => ?_)
            obtain rfl := h_71; rw [zu_zu]
            have hA3 := hA2.mono qp
            have hP3 := hP2.mono (fun q e hq _ => qp q e hq)
            have hpc : PL1 (zu μ_40 q_64 (zob 14 [.ref r2, .ref q_9])) q_64 (q, n, d) := ⟨r2, q_9, zu_s _ _ _, qp _ _ hr22, qp _ _ tf2⟩
            refine z_callb (z_runV hX (x_addPi _ _ hA3 hP3 h1 (by omega) (zu_s _ _ _)) (cwV 1 hX.ts (lw_V q375 q376 q377 q68 q378) rfl rfl rfl (by decide +kernel) (zroom (by first | decide | omega) (by decide))) dX0_addPieces_74 (by first | assumption | exact zu_s _ _ _ | exact zu_o (by assumption) (by assumption) | exact zu_o (by assumption) (zu_o (by assumption) (by assumption)) | exact (zu_o (by first | assumption | exact Ne.symm (by assumption)) (zu_s _ _ _)) | exact (zu_o (by first | assumption | exact Ne.symm (by assumption)) (by assumption)) | exact (zu_o (by first | assumption | exact Ne.symm (by assumption)) (zu_o (by first | assumption | exact Ne.symm (by assumption)) (zu_s _ _ _))) | exact (zu_o (by first | assumption | exact Ne.symm (by assumption)) (zu_o (by first | assumption | exact Ne.symm (by assumption)) (by assumption))) | exact (zu_o (by first | assumption | exact Ne.symm (by assumption)) (zu_o (by first | assumption | exact Ne.symm (by assumption)) (zu_o (by first | assumption | exact Ne.symm (by assumption)) (zu_s _ _ _)))) | exact (zu_o (by first | assumption | exact Ne.symm (by assumption)) (zu_o (by first | assumption | exact Ne.symm (by assumption)) (zu_o (by first | assumption | exact Ne.symm (by assumption)) (by assumption)))) | exact (zu_o (by first | assumption | exact Ne.symm (by assumption)) (zu_o (by first | assumption | exact Ne.symm (by assumption)) (zu_o (by first | assumption | exact Ne.symm (by assumption)) (zu_o (by first | assumption | exact Ne.symm (by assumption)) (zu_s _ _ _))))) | exact (zu_o (by first | assumption | exact Ne.symm (by assumption)) (zu_o (by first | assumption | exact Ne.symm (by assumption)) (zu_o (by first | assumption | exact Ne.symm (by assumption)) (zu_o (by first | assumption | exact Ne.symm (by assumption)) (by assumption))))) | exact AL.at (by assumption) | exact EL.at (by assumption) | exact LL.at (by assumption)) (ci := 17) rfl rfl rfl rfl (by first | exact Nat.le_of_ble_eq_true rfl | simp [va_rf_c, Value.category]) (zhf (by omega) (by omega))) (fun r_74 μ_74 h_74 => ?_)
            obtain ⟨rfl, b, c2, hb, -, hA4, hf4⟩ := h_74
            refine z_pop hX (by first | rfl | exact va_rf_c _) dX0_addPieces_77 ?_
            refine z_goto hX (tgt := 101) dX0_addPieces_78 rfl ?_
            (try rw [← hQ])
            refine z_return hX dX0_addPieces_101 (by omega) (by omega) ?_
            have hbl : b ≠ li := by
              rcases hb with ⟨q, -⟩ | q
              · rw [q]; exact hne
              · exact Ne.symm (zne (qp _ _ hlf2) q)
            have hd2 : zDm μ μ_40 := kq.dm.tr (hk2.dm1 hlf2)
            have hd3 : zDm (zu μ_40 q_64 (zob 14 [.ref r2, .ref q_9])) μ_74 := fun y hy => by
              by_cases h1 : y = al
              · obtain ⟨e, e1, -⟩ := hA4.k17
                rw [h1, e1] at hy
                cases hy
              · by_cases h2 : y = b
                · obtain ⟨e, e1, -⟩ := hA4.k104
                  rw [h2, e1] at hy
                  cases hy
                · rw [hf4 y h1 h2] at hy; exact hy
            have hk4 : ∀ y e, (zu μ_40 q_64 (zob 14 [.ref r2, .ref q_9])) y = some e → y ≠ al → y ≠ arr → μ_74 y = some e := fun y e hy h1 h2 => by
              rw [hf4 y h1 (by
                rcases hb with ⟨q, -⟩ | q
                · rw [q]; exact h2
                · exact zne hy q)]
              exact hy
            refine ⟨b, c2, _, hA4, (hP3.snoc hpc).mono (fun y e hy hk => hk4 y e hy (zkne hy (qp _ _ ea1') (by rw [ea2']; omega)) (zkne hy (qp _ _ eb1') (by rw [eb2']; omega))), ?_, ⟨lf2, hk4 _ _ (qp _ _ hlf2) (Ne.symm hali) (Ne.symm hne)⟩, fun y e hy hn => ?_, hd2.tr (qp.dm.tr hd3)⟩
            · rcases hb with ⟨q, -⟩ | q
              · exact Or.inl q
              · exact Or.inr (hd2 _ (qp.no q))
            · simp only [List.mem_cons, List.not_mem_nil, or_false, not_or] at hn
              exact hk4 y e (qp _ _ (hk2 y e (kq y e hy) (by simpa using hn.1))) hn.2.1 hn.2.2
          · exfalso; exact he (by omega)
      · cases h_5
