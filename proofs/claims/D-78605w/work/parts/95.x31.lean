/-! X SIDE 31: paths: the least line -/
set_option maxRecDepth 100000
def liN (a : Int → Int) (B : Nat) (n d : Int) (st : Bool) : Nat → (Int → Option (Int × Int)) → (Int → Option (Int × Int)) × Bool
  | 0, lt => (lt, false)
  | k + 1, lt => if (liR a B n d st lt).2 = true then liN a B n d st k (liR a B n d st lt).1 else ((liR a B n d st lt).1, true)
/-- the least line at n / d -/
def lsF (a : Int → Int) (B : Nat) (n d : Int) (st : Bool) (f t : Int) : Option (Int × Int) := if (liN a B n d st 9 (zf (fun _ => none) f (some (0, 0)))).2 = true then (liN a B n d st 9 (zf (fun _ => none) f (some (0, 0)))).1 t else none
def lsP (μ : zM) (r : Option Nat) : Option (Int × Int) → Prop
  | none => r = none
  | some p => ∃ z, r = some z ∧ μ z = some (zlx p.1 p.2)
theorem ltB_0 (f : Int) : ltB 0 (zf (fun _ => none) f (some (0, 0))) := fun v p _ _ h => by
  by_cases q : v = f
  · rw [q, zf_s] at h
    cases h
    exact ⟨⟨Int.le_refl _, Int.le_refl _⟩, Int.le_refl _, Int.le_refl _⟩
  · rw [zf_n q] at h
    cases h
theorem x_paLeast (l : Launch) (E : zE) {μ0 μ : zM} {x : Nat} {a : Int → Int} (hG : xG E μ0 x a) (k0 : zKp μ0 μ) (hg : gV a) {w : Nat} {f t : Int} {B li : Nat} {lf : Int → Option Nat} (hli : μ0 li = none) (hw : μ w = some (zob 12 [.int (zI f), .int (zI t), .int (zI (B : Int)), .ref li, .ref x])) (hf : 0 ≤ f ∧ f ≤ 7) (ht : 0 ≤ t ∧ t ≤ 7) (hB : B < 256) (hla : μ li = some (zaq E 4 8 lf)) {c : Nat} {n d : Int} (hc : μ c = some (zfr n d)) (hn : -1000000 ≤ n ∧ n ≤ 1000000) (hd : -1000000 ≤ d ∧ d ≤ 1000000) {st : Bool} : Met l yX14_least (ws_ yX14_least cX14_least 5 (some (.object "RatioGraph$Line"))) (zR 5 145 290) (va_Pc [.ref w, .ref c, .int (zI (zb st))] (zPre E μ)) (zQq E (fun r μ' => lsP μ' r (lsF a B n d st f t) ∧ (∃ lf', μ' li = some (zaq E 4 8 lf')) ∧ zKx [li] μ μ')) 145 290 (zA E) := by
  have nw : w ≠ li := zkne hw hla (by show (12 : Nat) ≠ 104; decide)
  have nc : c ≠ li := zkne hc hla (by show (5 : Nat) ≠ 104; decide)
  have kk : ∀ {μ1}, zKx [li] μ μ1 → zKp μ0 μ1 := fun {μ1} k z e hz => k z e (k0 z e hz) (by simpa using zne hz hli)
  refine zmet (cc := cX14_least) [_, _, _, _, _] (by decide) (Nat.le_of_ble_eq_true rfl) rfl rfl ?_
  intro X hl hX hinit; subst hl
  have hX : zOK X _ cX14_least RX14 (some (.object "RatioGraph$Line")) 5 := hX
  generalize hQ : MQ _ _ _ _ _ _ _ = Q
  have fin : ∀ (T : (Int → Option (Int × Int)) × Bool) (μ1 : zM) (lf1 : Int → Option Nat) (ce sl : Nat), liN a B n d st 9 (zf (fun _ => none) f (some (0, 0))) = T → zKx [li] μ μ1 → LT E μ1 li lf1 T.1 → ce ≤ 145 → sl ≤ 290 → zW X (zR 5 145 290) E (μ1) ce sl Q 68 [some (.ref w), some (.ref c), some (.int (zI (zb st))), some (.int (zI (zb (!T.2)))), none] [] := by
    intro T μ1 lf1 ce sl hT hk hL1 hce hsl
    have q1 := hk _ _ hw (by simpa using nw)
    have ql := hL1.1
    obtain ⟨lt1, b⟩ := T
    dsimp only at hL1
    have hls : lsF a B n d st f t = if b = true then lt1 t else none := by unfold lsF; rw [hT]
    refine z_iload_n hX rfl dX14_least_68 ?_
    refine z_if_eq_b hX dX14_least_69 (tgt := 76) rfl (fun h_69 => ?_) (fun h_69 => ?_)
    · have hb : b = true := by cases b <;> simp_all
      subst hb
      rw [if_pos rfl] at hls
      rw [hls] at hQ
      have h1 := hL1.2 t ht.1 ht.2
      cases hl : lt1 t with
      | none =>
        rw [hl] at h1 hQ
        have h1 : lf1 t = none := h1
        refine z_aload_n hX rfl (by first | rfl | exact va_rf_r _) dX14_least_76 ?_
        refine z_get hX (C := RX14) (T := TX14) (N := 5) (ci := 12) rfl in_X14 3 (by decide) q1147 (Or.inl rfl) dX14_least_77 (by first | assumption | exact zu_s _ _ _ | exact zu_o (by assumption) (by assumption) | exact zu_o (by assumption) (zu_o (by assumption) (by assumption)) | exact (zu_o (by first | assumption | exact Ne.symm (by assumption)) (zu_s _ _ _)) | exact (zu_o (by first | assumption | exact Ne.symm (by assumption)) (by assumption)) | exact (zu_o (by first | assumption | exact Ne.symm (by assumption)) (zu_o (by first | assumption | exact Ne.symm (by assumption)) (zu_s _ _ _))) | exact (zu_o (by first | assumption | exact Ne.symm (by assumption)) (zu_o (by first | assumption | exact Ne.symm (by assumption)) (by assumption))) | exact (zu_o (by first | assumption | exact Ne.symm (by assumption)) (zu_o (by first | assumption | exact Ne.symm (by assumption)) (zu_o (by first | assumption | exact Ne.symm (by assumption)) (zu_s _ _ _)))) | exact (zu_o (by first | assumption | exact Ne.symm (by assumption)) (zu_o (by first | assumption | exact Ne.symm (by assumption)) (zu_o (by first | assumption | exact Ne.symm (by assumption)) (by assumption)))) | exact (zu_o (by first | assumption | exact Ne.symm (by assumption)) (zu_o (by first | assumption | exact Ne.symm (by assumption)) (zu_o (by first | assumption | exact Ne.symm (by assumption)) (zu_o (by first | assumption | exact Ne.symm (by assumption)) (zu_s _ _ _))))) | exact (zu_o (by first | assumption | exact Ne.symm (by assumption)) (zu_o (by first | assumption | exact Ne.symm (by assumption)) (zu_o (by first | assumption | exact Ne.symm (by assumption)) (zu_o (by first | assumption | exact Ne.symm (by assumption)) (by assumption))))) | exact AL.at (by assumption) | exact EL.at (by assumption) | exact LL.at (by assumption)) rfl ?_
        refine z_aload_n hX rfl (by first | rfl | exact va_rf_r _) dX14_least_80 ?_
        refine z_get hX (C := RX14) (T := TX14) (N := 5) (ci := 12) rfl in_X14 1 (by decide) q1145 (Or.inl rfl) dX14_least_81 (by first | assumption | exact zu_s _ _ _ | exact zu_o (by assumption) (by assumption) | exact zu_o (by assumption) (zu_o (by assumption) (by assumption)) | exact (zu_o (by first | assumption | exact Ne.symm (by assumption)) (zu_s _ _ _)) | exact (zu_o (by first | assumption | exact Ne.symm (by assumption)) (by assumption)) | exact (zu_o (by first | assumption | exact Ne.symm (by assumption)) (zu_o (by first | assumption | exact Ne.symm (by assumption)) (zu_s _ _ _))) | exact (zu_o (by first | assumption | exact Ne.symm (by assumption)) (zu_o (by first | assumption | exact Ne.symm (by assumption)) (by assumption))) | exact (zu_o (by first | assumption | exact Ne.symm (by assumption)) (zu_o (by first | assumption | exact Ne.symm (by assumption)) (zu_o (by first | assumption | exact Ne.symm (by assumption)) (zu_s _ _ _)))) | exact (zu_o (by first | assumption | exact Ne.symm (by assumption)) (zu_o (by first | assumption | exact Ne.symm (by assumption)) (zu_o (by first | assumption | exact Ne.symm (by assumption)) (by assumption)))) | exact (zu_o (by first | assumption | exact Ne.symm (by assumption)) (zu_o (by first | assumption | exact Ne.symm (by assumption)) (zu_o (by first | assumption | exact Ne.symm (by assumption)) (zu_o (by first | assumption | exact Ne.symm (by assumption)) (zu_s _ _ _))))) | exact (zu_o (by first | assumption | exact Ne.symm (by assumption)) (zu_o (by first | assumption | exact Ne.symm (by assumption)) (zu_o (by first | assumption | exact Ne.symm (by assumption)) (zu_o (by first | assumption | exact Ne.symm (by assumption)) (by assumption))))) | exact AL.at (by assumption) | exact EL.at (by assumption) | exact LL.at (by assumption)) rfl ?_
        refine z_aaloadN hX 4 rfl dX14_least_84 ql h1 (by omega) ?_
        (try rw [← hQ])
        first | refine z_areturn hX (r := some _) rfl (by first | exact Or.inl ⟨_, rfl⟩ | exact Or.inr ⟨_, rfl⟩) dX14_least_85 (by omega) (by omega) ?_ | refine z_areturn hX (r := none) rfl (by first | exact Or.inl ⟨_, rfl⟩ | exact Or.inr ⟨_, rfl⟩) dX14_least_85 (by omega) (by omega) ?_ | refine z_areturn hX rfl (by first | exact Or.inl ⟨_, rfl⟩ | exact Or.inr ⟨_, rfl⟩) dX14_least_85 (by omega) (by omega) ?_
        exact ⟨rfl, ⟨_, ql⟩, hk⟩
      | some p =>
        rw [hl] at h1 hQ
        obtain ⟨r0, hr0, hz0⟩ := h1
        refine z_aload_n hX rfl (by first | rfl | exact va_rf_r _) dX14_least_76 ?_
        refine z_get hX (C := RX14) (T := TX14) (N := 5) (ci := 12) rfl in_X14 3 (by decide) q1147 (Or.inl rfl) dX14_least_77 (by first | assumption | exact zu_s _ _ _ | exact zu_o (by assumption) (by assumption) | exact zu_o (by assumption) (zu_o (by assumption) (by assumption)) | exact (zu_o (by first | assumption | exact Ne.symm (by assumption)) (zu_s _ _ _)) | exact (zu_o (by first | assumption | exact Ne.symm (by assumption)) (by assumption)) | exact (zu_o (by first | assumption | exact Ne.symm (by assumption)) (zu_o (by first | assumption | exact Ne.symm (by assumption)) (zu_s _ _ _))) | exact (zu_o (by first | assumption | exact Ne.symm (by assumption)) (zu_o (by first | assumption | exact Ne.symm (by assumption)) (by assumption))) | exact (zu_o (by first | assumption | exact Ne.symm (by assumption)) (zu_o (by first | assumption | exact Ne.symm (by assumption)) (zu_o (by first | assumption | exact Ne.symm (by assumption)) (zu_s _ _ _)))) | exact (zu_o (by first | assumption | exact Ne.symm (by assumption)) (zu_o (by first | assumption | exact Ne.symm (by assumption)) (zu_o (by first | assumption | exact Ne.symm (by assumption)) (by assumption)))) | exact (zu_o (by first | assumption | exact Ne.symm (by assumption)) (zu_o (by first | assumption | exact Ne.symm (by assumption)) (zu_o (by first | assumption | exact Ne.symm (by assumption)) (zu_o (by first | assumption | exact Ne.symm (by assumption)) (zu_s _ _ _))))) | exact (zu_o (by first | assumption | exact Ne.symm (by assumption)) (zu_o (by first | assumption | exact Ne.symm (by assumption)) (zu_o (by first | assumption | exact Ne.symm (by assumption)) (zu_o (by first | assumption | exact Ne.symm (by assumption)) (by assumption))))) | exact AL.at (by assumption) | exact EL.at (by assumption) | exact LL.at (by assumption)) rfl ?_
        refine z_aload_n hX rfl (by first | rfl | exact va_rf_r _) dX14_least_80 ?_
        refine z_get hX (C := RX14) (T := TX14) (N := 5) (ci := 12) rfl in_X14 1 (by decide) q1145 (Or.inl rfl) dX14_least_81 (by first | assumption | exact zu_s _ _ _ | exact zu_o (by assumption) (by assumption) | exact zu_o (by assumption) (zu_o (by assumption) (by assumption)) | exact (zu_o (by first | assumption | exact Ne.symm (by assumption)) (zu_s _ _ _)) | exact (zu_o (by first | assumption | exact Ne.symm (by assumption)) (by assumption)) | exact (zu_o (by first | assumption | exact Ne.symm (by assumption)) (zu_o (by first | assumption | exact Ne.symm (by assumption)) (zu_s _ _ _))) | exact (zu_o (by first | assumption | exact Ne.symm (by assumption)) (zu_o (by first | assumption | exact Ne.symm (by assumption)) (by assumption))) | exact (zu_o (by first | assumption | exact Ne.symm (by assumption)) (zu_o (by first | assumption | exact Ne.symm (by assumption)) (zu_o (by first | assumption | exact Ne.symm (by assumption)) (zu_s _ _ _)))) | exact (zu_o (by first | assumption | exact Ne.symm (by assumption)) (zu_o (by first | assumption | exact Ne.symm (by assumption)) (zu_o (by first | assumption | exact Ne.symm (by assumption)) (by assumption)))) | exact (zu_o (by first | assumption | exact Ne.symm (by assumption)) (zu_o (by first | assumption | exact Ne.symm (by assumption)) (zu_o (by first | assumption | exact Ne.symm (by assumption)) (zu_o (by first | assumption | exact Ne.symm (by assumption)) (zu_s _ _ _))))) | exact (zu_o (by first | assumption | exact Ne.symm (by assumption)) (zu_o (by first | assumption | exact Ne.symm (by assumption)) (zu_o (by first | assumption | exact Ne.symm (by assumption)) (zu_o (by first | assumption | exact Ne.symm (by assumption)) (by assumption))))) | exact AL.at (by assumption) | exact EL.at (by assumption) | exact LL.at (by assumption)) rfl ?_
        refine z_aaloadR hX 4 rfl dX14_least_84 ql hr0 (by omega) ?_
        (try rw [← hQ])
        first | refine z_areturn hX (r := some _) rfl (by first | exact Or.inl ⟨_, rfl⟩ | exact Or.inr ⟨_, rfl⟩) dX14_least_85 (by omega) (by omega) ?_ | refine z_areturn hX (r := none) rfl (by first | exact Or.inl ⟨_, rfl⟩ | exact Or.inr ⟨_, rfl⟩) dX14_least_85 (by omega) (by omega) ?_ | refine z_areturn hX rfl (by first | exact Or.inl ⟨_, rfl⟩ | exact Or.inr ⟨_, rfl⟩) dX14_least_85 (by omega) (by omega) ?_
        exact ⟨⟨r0, rfl, hz0⟩, ⟨_, ql⟩, hk⟩
    · have hb : b = false := by cases b <;> simp_all
      subst hb
      rw [if_neg (show ¬ (false = true) by decide)] at hls
      rw [hls] at hQ
      refine z_null hX dX14_least_72 ?_
      refine z_goto hX (tgt := 85) dX14_least_73 rfl ?_
      (try rw [← hQ])
      first | refine z_areturn hX (r := some _) rfl (by first | exact Or.inl ⟨_, rfl⟩ | exact Or.inr ⟨_, rfl⟩) dX14_least_85 (by omega) (by omega) ?_ | refine z_areturn hX (r := none) rfl (by first | exact Or.inl ⟨_, rfl⟩ | exact Or.inr ⟨_, rfl⟩) dX14_least_85 (by omega) (by omega) ?_ | refine z_areturn hX rfl (by first | exact Or.inl ⟨_, rfl⟩ | exact Or.inr ⟨_, rfl⟩) dX14_least_85 (by omega) (by omega) ?_
      exact ⟨rfl, ⟨_, ql⟩, hk⟩
  have loop : ∀ (k : Nat) (i : Int) (μ1 : zM) (lf1 : Int → Option Nat) (lt1 : Int → Option (Int × Int)) (ce sl : Nat), i = 9 - k → 0 ≤ i → zKx [li] μ μ1 → LT E μ1 li lf1 lt1 → ltB (1584 * i) lt1 → liN a B n d st k lt1 = liN a B n d st 9 (zf (fun _ => none) f (some (0, 0))) → (ce : Int) ≤ 1 + 16 * i → (sl : Int) ≤ 2 + 32 * i → zW X (zR 5 145 290) E (μ1) ce sl Q 44 [some (.ref w), some (.ref c), some (.int (zI (zb st))), some (.int (zI (zb true))), some (.int (zI i))] [] := by
    intro k
    induction k with
    | zero =>
      intro i μ1 lf1 lt1 ce sl hi i0 hk hL1 hb1 hs hce hsl
      refine z_iload hX rfl dX14_least_44 ?_
      refine z_bipush hX (by decide) dX14_least_46 ?_
      refine z_icmp_gt hX (by omega) (by omega) dX14_least_48 (tgt := 68) rfl (fun h_48 => ?_) (fun h_48 => ?_)
      · refine zW.mask [true, true, true, true, false] (lv' := [_, _, _, _, none]) rfl ?_
        exact fin (lt1, false) μ1 lf1 ce sl hs.symm hk hL1 (by omega) (by omega)
      · exfalso; omega
    | succ k ih =>
      intro i μ1 lf1 lt1 ce sl hi i0 hk hL1 hb1 hs hce hsl
      have q1 := hk _ _ hw (by simpa using nw)
      have qc := hk _ _ hc (by simpa using nc)
      have hbr := liR_b (B := B) (n := n) (d := d) (st := st) hg hb1
      rw [show 1584 * i + 1584 = 1584 * (i + 1) by omega] at hbr
      rw [liN] at hs
      refine z_iload hX rfl dX14_least_44 ?_
      refine z_bipush hX (by decide) dX14_least_46 ?_
      refine z_icmp_gt hX (by omega) (by omega) dX14_least_48 (tgt := 68) rfl (fun h_48 => ?_) (fun h_48 => ?_)
      · exfalso; omega
      · refine z_iload_n hX rfl dX14_least_51 ?_
        refine z_if_eq_b hX dX14_least_52 (tgt := 68) rfl (fun h_52 => ?_) (fun h_52 => ?_)
        · cases h_52
        · refine z_aload_n hX rfl (by first | rfl | exact va_rf_r _) dX14_least_55 ?_
          refine z_aload_n hX rfl (by first | rfl | exact va_rf_r _) dX14_least_56 ?_
          refine z_iload_n hX rfl dX14_least_57 ?_
          refine z_callb (z_runV hX (x_paRelax (M := 1584 * i) _ _ hG (kk hk) hg hli q1 hB hL1 (by omega) hb1 qc hn hd) (cwV 2 hX.ts (lw_V q1209 q1211 qs25 q93 q1212) rfl rfl rfl (by decide +kernel) (zroom (by omega) (by decide))) dX14_least_58 (by first | assumption | exact zu_s _ _ _ | exact zu_o (by assumption) (by assumption) | exact zu_o (by assumption) (zu_o (by assumption) (by assumption)) | exact (zu_o (by first | assumption | exact Ne.symm (by assumption)) (zu_s _ _ _)) | exact (zu_o (by first | assumption | exact Ne.symm (by assumption)) (by assumption)) | exact (zu_o (by first | assumption | exact Ne.symm (by assumption)) (zu_o (by first | assumption | exact Ne.symm (by assumption)) (zu_s _ _ _))) | exact (zu_o (by first | assumption | exact Ne.symm (by assumption)) (zu_o (by first | assumption | exact Ne.symm (by assumption)) (by assumption))) | exact (zu_o (by first | assumption | exact Ne.symm (by assumption)) (zu_o (by first | assumption | exact Ne.symm (by assumption)) (zu_o (by first | assumption | exact Ne.symm (by assumption)) (zu_s _ _ _)))) | exact (zu_o (by first | assumption | exact Ne.symm (by assumption)) (zu_o (by first | assumption | exact Ne.symm (by assumption)) (zu_o (by first | assumption | exact Ne.symm (by assumption)) (by assumption)))) | exact (zu_o (by first | assumption | exact Ne.symm (by assumption)) (zu_o (by first | assumption | exact Ne.symm (by assumption)) (zu_o (by first | assumption | exact Ne.symm (by assumption)) (zu_o (by first | assumption | exact Ne.symm (by assumption)) (zu_s _ _ _))))) | exact (zu_o (by first | assumption | exact Ne.symm (by assumption)) (zu_o (by first | assumption | exact Ne.symm (by assumption)) (zu_o (by first | assumption | exact Ne.symm (by assumption)) (zu_o (by first | assumption | exact Ne.symm (by assumption)) (by assumption))))) | exact AL.at (by assumption) | exact EL.at (by assumption) | exact LL.at (by assumption)) (ci := 12) rfl rfl rfl rfl (by first | exact Nat.le_of_ble_eq_true rfl | simp [va_rf_c, Value.category]) (zhf (by omega) (by omega))) (fun r_58 μ_58 h_58 => ?_)
          obtain ⟨lf2, hr, hL2, hk2⟩ := h_58
          refine z_istore_n hX (lv' := [_, _, _, _, _]) (Nat.le_of_ble_eq_true rfl) (by first | exact zpre_0 | exact zpre_n rfl | exact zpre_1 rfl rfl | exact zpre_1 rfl (va_rf_c _)) rfl dX14_least_61 ?_
          refine z_iinc hX (lv' := [_, _, _, _, _]) rfl (Nat.le_of_ble_eq_true rfl) (by first | exact zpre_0 | exact zpre_n rfl | exact zpre_1 rfl rfl | exact zpre_1 rfl (va_rf_c _)) rfl dX14_least_62 ?_
          refine z_goto hX (tgt := 44) dX14_least_65 rfl ?_
          have hk3 := hk.tr hk2
          cases r_58 with
          | true =>
            rw [if_pos hr] at hs
            exact ih (i + 1) _ _ _ _ _ (by omega) (by omega) hk3 hL2 hbr hs (by omega) (by omega)
          | false =>
            rw [if_neg (by rw [hr]; decide)] at hs
            have fin2 : ∀ y, zW X (zR 5 145 290) E (μ_58) (ce + 16) (sl + 32) Q 68 [some (.ref w), some (.ref c), some (.int (zI (zb st))), some (.int (zI (zb false))), y] [] := fun y => by
              refine zW.mask [true, true, true, true, false] (lv' := [_, _, _, _, none]) rfl ?_
              exact fin ((liR a B n d st lt1).1, true) μ_58 lf2 _ _ hs.symm hk3 hL2 (by omega) (by omega)
            refine z_iload hX rfl dX14_least_44 ?_
            refine z_bipush hX (by decide) dX14_least_46 ?_
            refine z_icmp_gt hX (by omega) (by omega) dX14_least_48 (tgt := 68) rfl (fun h_48 => ?_) (fun h_48 => ?_)
            · exact fin2 _
            · refine z_iload_n hX rfl dX14_least_51 ?_
              refine z_if_eq_b hX dX14_least_52 (tgt := 68) rfl (fun h_52 => ?_) (fun h_52 => ?_)
              · exact fin2 _
              · cases h_52
  have fill : ∀ (m : Nat) (v : Int) (lf1 : Int → Option Nat), 0 ≤ v → v ≤ 8 → 8 < v + m → (∀ u, 0 ≤ u → u < v → lf1 u = none) → zW X (zR 5 145 290) E (zu μ li (zaq E 4 8 lf1)) 0 0 Q 2 [some (.ref w), some (.ref c), some (.int (zI (zb st))), some (.int (zI v)), none] [] := by
    intro m
    induction m with
    | zero => intros; exfalso; omega
    | succ m ih =>
      intro v lf1 v0 v1 hm hv
      have q1 : (zu μ li (zaq E 4 8 lf1)) w = _ := zu_o nw hw
      have ql := zu_s μ li (zaq E 4 8 lf1)
      refine z_iload_n hX rfl dX14_least_2 ?_
      refine z_bipush hX (by decide) dX14_least_3 ?_
      refine z_icmp_ge hX (by omega) (by omega) dX14_least_5 (tgt := 21) rfl (fun h_5 => ?_) (fun h_5 => ?_)
      · have hk1 : zKx [li] μ (zu μ li (zaq E 4 8 lf1)) := (zKx.rf _ _).put (by simp) _
        refine z_aload_n hX rfl (by first | rfl | exact va_rf_r _) dX14_least_21 ?_
        refine z_get hX (C := RX14) (T := TX14) (N := 5) (ci := 12) rfl in_X14 3 (by decide) q1147 (Or.inl rfl) dX14_least_22 (by first | assumption | exact zu_s _ _ _ | exact zu_o (by assumption) (by assumption) | exact zu_o (by assumption) (zu_o (by assumption) (by assumption)) | exact (zu_o (by first | assumption | exact Ne.symm (by assumption)) (zu_s _ _ _)) | exact (zu_o (by first | assumption | exact Ne.symm (by assumption)) (by assumption)) | exact (zu_o (by first | assumption | exact Ne.symm (by assumption)) (zu_o (by first | assumption | exact Ne.symm (by assumption)) (zu_s _ _ _))) | exact (zu_o (by first | assumption | exact Ne.symm (by assumption)) (zu_o (by first | assumption | exact Ne.symm (by assumption)) (by assumption))) | exact (zu_o (by first | assumption | exact Ne.symm (by assumption)) (zu_o (by first | assumption | exact Ne.symm (by assumption)) (zu_o (by first | assumption | exact Ne.symm (by assumption)) (zu_s _ _ _)))) | exact (zu_o (by first | assumption | exact Ne.symm (by assumption)) (zu_o (by first | assumption | exact Ne.symm (by assumption)) (zu_o (by first | assumption | exact Ne.symm (by assumption)) (by assumption)))) | exact (zu_o (by first | assumption | exact Ne.symm (by assumption)) (zu_o (by first | assumption | exact Ne.symm (by assumption)) (zu_o (by first | assumption | exact Ne.symm (by assumption)) (zu_o (by first | assumption | exact Ne.symm (by assumption)) (zu_s _ _ _))))) | exact (zu_o (by first | assumption | exact Ne.symm (by assumption)) (zu_o (by first | assumption | exact Ne.symm (by assumption)) (zu_o (by first | assumption | exact Ne.symm (by assumption)) (zu_o (by first | assumption | exact Ne.symm (by assumption)) (by assumption))))) | exact AL.at (by assumption) | exact EL.at (by assumption) | exact LL.at (by assumption)) rfl ?_
        refine z_aload_n hX rfl (by first | rfl | exact va_rf_r _) dX14_least_25 ?_
        refine z_get hX (C := RX14) (T := TX14) (N := 5) (ci := 12) rfl in_X14 0 (by decide) q1144 (Or.inl rfl) dX14_least_26 (by first | assumption | exact zu_s _ _ _ | exact zu_o (by assumption) (by assumption) | exact zu_o (by assumption) (zu_o (by assumption) (by assumption)) | exact (zu_o (by first | assumption | exact Ne.symm (by assumption)) (zu_s _ _ _)) | exact (zu_o (by first | assumption | exact Ne.symm (by assumption)) (by assumption)) | exact (zu_o (by first | assumption | exact Ne.symm (by assumption)) (zu_o (by first | assumption | exact Ne.symm (by assumption)) (zu_s _ _ _))) | exact (zu_o (by first | assumption | exact Ne.symm (by assumption)) (zu_o (by first | assumption | exact Ne.symm (by assumption)) (by assumption))) | exact (zu_o (by first | assumption | exact Ne.symm (by assumption)) (zu_o (by first | assumption | exact Ne.symm (by assumption)) (zu_o (by first | assumption | exact Ne.symm (by assumption)) (zu_s _ _ _)))) | exact (zu_o (by first | assumption | exact Ne.symm (by assumption)) (zu_o (by first | assumption | exact Ne.symm (by assumption)) (zu_o (by first | assumption | exact Ne.symm (by assumption)) (by assumption)))) | exact (zu_o (by first | assumption | exact Ne.symm (by assumption)) (zu_o (by first | assumption | exact Ne.symm (by assumption)) (zu_o (by first | assumption | exact Ne.symm (by assumption)) (zu_o (by first | assumption | exact Ne.symm (by assumption)) (zu_s _ _ _))))) | exact (zu_o (by first | assumption | exact Ne.symm (by assumption)) (zu_o (by first | assumption | exact Ne.symm (by assumption)) (zu_o (by first | assumption | exact Ne.symm (by assumption)) (zu_o (by first | assumption | exact Ne.symm (by assumption)) (by assumption))))) | exact AL.at (by assumption) | exact EL.at (by assumption) | exact LL.at (by assumption)) rfl ?_
        refine z_new hX (C := RX15) (T := TX15) (N := 2) (ci := 13) rfl in_X15 tyX15 tyX15_ok q1135 q1191 q94 dX14_least_29 (fs := [.long (zJ 0), .long (zJ 0)]) (by decide) (by omega) (by omega) (fun q_29 f_29 => ?_)
        have kn := zKp.new f_29 (zlx 0 0)
        have qA := kn _ _ q1
        have qB := kn _ _ ql
        refine z_dup hX (by first | rfl | exact va_rf_c _) dX14_least_32 ?_
        refine z_lconst hX (z := 0) (by decide) dX14_least_33 ?_
        refine z_lconst hX (z := 0) (by decide) dX14_least_34 ?_
        refine z_callv (z_runI hX (x_liI _ _ (zu_s _ _ _)) (cwI 2 hX.ts (lw_meth q1194) rfl rfl rfl (hX.t q94) (hX.t q1192) (hX.t q1193) rfl (by decide +kernel) (zroom (by decide) (by decide))) dX14_least_35 rfl rfl rfl (by first | exact Nat.le_of_ble_eq_true rfl | simp [va_rf_c, Value.category]) (zhf (by omega) (by omega))) (fun μ_35 h_35 => ?_)
        obtain rfl := h_35; rw [zu_zu]
        have hzq : (zu (zu μ li (zaq E 4 8 lf1)) q_29 (zlx 0 0)) q_29 = some (zob 13 [.long (zJ 0), .long (zJ 0)]) := zu_s _ _ _
        have hL : LT E (zu (zu μ li (zaq E 4 8 lf1)) q_29 (zlx 0 0)) li lf1 (fun _ => none) := ⟨qB, fun u u0 u7 => hv u u0 (by omega)⟩
        refine z_aastore hX 4 (C := RX15) (T := TX15) (N := 2) (ci := 13) rfl rfl dX14_least_38 (by first | assumption | exact zu_s _ _ _ | exact zu_o (by assumption) (by assumption) | exact zu_o (by assumption) (zu_o (by assumption) (by assumption)) | exact (zu_o (by first | assumption | exact Ne.symm (by assumption)) (zu_s _ _ _)) | exact (zu_o (by first | assumption | exact Ne.symm (by assumption)) (by assumption)) | exact (zu_o (by first | assumption | exact Ne.symm (by assumption)) (zu_o (by first | assumption | exact Ne.symm (by assumption)) (zu_s _ _ _))) | exact (zu_o (by first | assumption | exact Ne.symm (by assumption)) (zu_o (by first | assumption | exact Ne.symm (by assumption)) (by assumption))) | exact (zu_o (by first | assumption | exact Ne.symm (by assumption)) (zu_o (by first | assumption | exact Ne.symm (by assumption)) (zu_o (by first | assumption | exact Ne.symm (by assumption)) (zu_s _ _ _)))) | exact (zu_o (by first | assumption | exact Ne.symm (by assumption)) (zu_o (by first | assumption | exact Ne.symm (by assumption)) (zu_o (by first | assumption | exact Ne.symm (by assumption)) (by assumption)))) | exact (zu_o (by first | assumption | exact Ne.symm (by assumption)) (zu_o (by first | assumption | exact Ne.symm (by assumption)) (zu_o (by first | assumption | exact Ne.symm (by assumption)) (zu_o (by first | assumption | exact Ne.symm (by assumption)) (zu_s _ _ _))))) | exact (zu_o (by first | assumption | exact Ne.symm (by assumption)) (zu_o (by first | assumption | exact Ne.symm (by assumption)) (zu_o (by first | assumption | exact Ne.symm (by assumption)) (zu_o (by first | assumption | exact Ne.symm (by assumption)) (by assumption))))) | exact AL.at (by assumption) | exact EL.at (by assumption) | exact LL.at (by assumption)) (by first | assumption | exact zu_s _ _ _ | exact zu_o (by assumption) (by assumption) | exact zu_o (by assumption) (zu_o (by assumption) (by assumption)) | exact (zu_o (by first | assumption | exact Ne.symm (by assumption)) (zu_s _ _ _)) | exact (zu_o (by first | assumption | exact Ne.symm (by assumption)) (by assumption)) | exact (zu_o (by first | assumption | exact Ne.symm (by assumption)) (zu_o (by first | assumption | exact Ne.symm (by assumption)) (zu_s _ _ _))) | exact (zu_o (by first | assumption | exact Ne.symm (by assumption)) (zu_o (by first | assumption | exact Ne.symm (by assumption)) (by assumption))) | exact (zu_o (by first | assumption | exact Ne.symm (by assumption)) (zu_o (by first | assumption | exact Ne.symm (by assumption)) (zu_o (by first | assumption | exact Ne.symm (by assumption)) (zu_s _ _ _)))) | exact (zu_o (by first | assumption | exact Ne.symm (by assumption)) (zu_o (by first | assumption | exact Ne.symm (by assumption)) (zu_o (by first | assumption | exact Ne.symm (by assumption)) (by assumption)))) | exact (zu_o (by first | assumption | exact Ne.symm (by assumption)) (zu_o (by first | assumption | exact Ne.symm (by assumption)) (zu_o (by first | assumption | exact Ne.symm (by assumption)) (zu_o (by first | assumption | exact Ne.symm (by assumption)) (zu_s _ _ _))))) | exact (zu_o (by first | assumption | exact Ne.symm (by assumption)) (zu_o (by first | assumption | exact Ne.symm (by assumption)) (zu_o (by first | assumption | exact Ne.symm (by assumption)) (zu_o (by first | assumption | exact Ne.symm (by assumption)) (by assumption))))) | exact AL.at (by assumption) | exact EL.at (by assumption) | exact LL.at (by assumption)) (by omega) ?_
        refine z_iconst hX dX14_least_39 ?_
        refine z_istore_n hX (lv' := [_, _, _, _, _]) (Nat.le_of_ble_eq_true rfl) (by first | exact zpre_0 | exact zpre_n rfl | exact zpre_1 rfl rfl | exact zpre_1 rfl (va_rf_c _)) rfl dX14_least_40 ?_
        refine z_iconst hX dX14_least_41 ?_
        refine z_istore hX (lv' := [_, _, _, _, _]) (Nat.le_of_ble_eq_true rfl) (by first | exact zpre_0 | exact zpre_n rfl | exact zpre_1 rfl rfl | exact zpre_1 rfl (va_rf_c _)) rfl dX14_least_42 ?_
        exact loop 9 0 _ _ _ _ _ (by omega) (by omega) ((hk1.tr (kn.x _)).put (by simp) _) (hL.put hzq f) (by simpa using ltB_0 f) rfl (by omega) (by omega)
      · refine z_aload_n hX rfl (by first | rfl | exact va_rf_r _) dX14_least_8 ?_
        refine z_get hX (C := RX14) (T := TX14) (N := 5) (ci := 12) rfl in_X14 3 (by decide) q1147 (Or.inl rfl) dX14_least_9 (by first | assumption | exact zu_s _ _ _ | exact zu_o (by assumption) (by assumption) | exact zu_o (by assumption) (zu_o (by assumption) (by assumption)) | exact (zu_o (by first | assumption | exact Ne.symm (by assumption)) (zu_s _ _ _)) | exact (zu_o (by first | assumption | exact Ne.symm (by assumption)) (by assumption)) | exact (zu_o (by first | assumption | exact Ne.symm (by assumption)) (zu_o (by first | assumption | exact Ne.symm (by assumption)) (zu_s _ _ _))) | exact (zu_o (by first | assumption | exact Ne.symm (by assumption)) (zu_o (by first | assumption | exact Ne.symm (by assumption)) (by assumption))) | exact (zu_o (by first | assumption | exact Ne.symm (by assumption)) (zu_o (by first | assumption | exact Ne.symm (by assumption)) (zu_o (by first | assumption | exact Ne.symm (by assumption)) (zu_s _ _ _)))) | exact (zu_o (by first | assumption | exact Ne.symm (by assumption)) (zu_o (by first | assumption | exact Ne.symm (by assumption)) (zu_o (by first | assumption | exact Ne.symm (by assumption)) (by assumption)))) | exact (zu_o (by first | assumption | exact Ne.symm (by assumption)) (zu_o (by first | assumption | exact Ne.symm (by assumption)) (zu_o (by first | assumption | exact Ne.symm (by assumption)) (zu_o (by first | assumption | exact Ne.symm (by assumption)) (zu_s _ _ _))))) | exact (zu_o (by first | assumption | exact Ne.symm (by assumption)) (zu_o (by first | assumption | exact Ne.symm (by assumption)) (zu_o (by first | assumption | exact Ne.symm (by assumption)) (zu_o (by first | assumption | exact Ne.symm (by assumption)) (by assumption))))) | exact AL.at (by assumption) | exact EL.at (by assumption) | exact LL.at (by assumption)) rfl ?_
        refine z_iload_n hX rfl dX14_least_12 ?_
        refine z_null hX dX14_least_13 ?_
        refine z_aastoreN hX 4 rfl dX14_least_14 (by first | assumption | exact zu_s _ _ _ | exact zu_o (by assumption) (by assumption) | exact zu_o (by assumption) (zu_o (by assumption) (by assumption)) | exact (zu_o (by first | assumption | exact Ne.symm (by assumption)) (zu_s _ _ _)) | exact (zu_o (by first | assumption | exact Ne.symm (by assumption)) (by assumption)) | exact (zu_o (by first | assumption | exact Ne.symm (by assumption)) (zu_o (by first | assumption | exact Ne.symm (by assumption)) (zu_s _ _ _))) | exact (zu_o (by first | assumption | exact Ne.symm (by assumption)) (zu_o (by first | assumption | exact Ne.symm (by assumption)) (by assumption))) | exact (zu_o (by first | assumption | exact Ne.symm (by assumption)) (zu_o (by first | assumption | exact Ne.symm (by assumption)) (zu_o (by first | assumption | exact Ne.symm (by assumption)) (zu_s _ _ _)))) | exact (zu_o (by first | assumption | exact Ne.symm (by assumption)) (zu_o (by first | assumption | exact Ne.symm (by assumption)) (zu_o (by first | assumption | exact Ne.symm (by assumption)) (by assumption)))) | exact (zu_o (by first | assumption | exact Ne.symm (by assumption)) (zu_o (by first | assumption | exact Ne.symm (by assumption)) (zu_o (by first | assumption | exact Ne.symm (by assumption)) (zu_o (by first | assumption | exact Ne.symm (by assumption)) (zu_s _ _ _))))) | exact (zu_o (by first | assumption | exact Ne.symm (by assumption)) (zu_o (by first | assumption | exact Ne.symm (by assumption)) (zu_o (by first | assumption | exact Ne.symm (by assumption)) (zu_o (by first | assumption | exact Ne.symm (by assumption)) (by assumption))))) | exact AL.at (by assumption) | exact EL.at (by assumption) | exact LL.at (by assumption)) (by omega) ?_
        refine z_iinc hX (lv' := [_, _, _, _, _]) rfl (Nat.le_of_ble_eq_true rfl) (by first | exact zpre_0 | exact zpre_n rfl | exact zpre_1 rfl rfl | exact zpre_1 rfl (va_rf_c _)) rfl dX14_least_15 ?_
        refine z_goto hX (tgt := 2) dX14_least_18 rfl ?_
        rw [zu_zu]
        exact ih (v + 1) _ (by omega) (by omega) (by omega) (fun u u0 u1 => by
          by_cases q : u = v
          · rw [q, zf_s]
          · rw [zf_n q]; exact hv u u0 (by omega))
  refine z_iconst hX dX14_least_0 ?_
  refine z_istore_n hX (lv' := [_, _, _, _, _]) (Nat.le_of_ble_eq_true rfl) (by first | exact zpre_0 | exact zpre_n rfl | exact zpre_1 rfl rfl | exact zpre_1 rfl (va_rf_c _)) rfl dX14_least_1 ?_
  have := fill 9 0 lf (by omega) (by omega) (by omega) (fun u u0 u1 => by omega)
  rw [zu_id hla] at this
  exact this
