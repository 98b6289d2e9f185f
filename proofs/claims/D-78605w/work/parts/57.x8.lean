/-! X SIDE 8: ArrayList: made from a list -/
set_option maxRecDepth 100000
theorem lw_F {own : String} {idx : Nat} {C : String} {x y : MethodName} {b : ByteArray} {L : Nat} {r : Option FieldType} (h1 : Cond.methodLink own idx x ∈ lw_all) (h2 : Cond.selects C x y ∈ lw_all) (h3 : Cond.instanceMethod y ∈ lw_all) (h4 : Cond.initialized y.cls ∈ lw_all) (h5 : Cond.code y b L r ∈ lw_all) : GoodIn lw_all (va_wsF own idx C x y (ws_ y b L r)) := by
  refine lw_app ?_ (lw_meth h5)
  intro w hw
  simp only [List.mem_cons, List.not_mem_nil, or_false] at hw
  rcases hw with e | e | e | e
  · rw [e]; exact h1
  · rw [e]; exact h2
  · rw [e]; exact h3
  · rw [e]; exact h4
theorem zu_id {μ : zM} {a : Nat} {e : va_E} (h : μ a = some e) : zu μ a e = μ := by
  funext b
  simp only [zu]
  split
  · rename_i q; rw [q, h]
  · rfl
theorem zsel_I {C : String} {A : Array Value} {s : State} (hf : (Cond.interfaceMethod "java/util/Collection" "java/lang/Object" "getClass" "()Ljava/lang/Class;").before #[] s = true) (hs : (Cond.selects C ⟨"java/lang/Object", "getClass", "()Ljava/lang/Class;"⟩ ⟨"java/lang/Object", "getClass", "()Ljava/lang/Class;"⟩).before A s = true) : (Cond.selects C ⟨"java/util/Collection", "getClass", "()Ljava/lang/Class;"⟩ ⟨"java/lang/Object", "getClass", "()Ljava/lang/Class;"⟩).before A s = true := by
  obtain ⟨cL, kL, m1, -, -, -, hf1, hn1⟩ := Cond.interfaceMethod_spec hf
  obtain ⟨c, r, m, q1, q2, q3, q4, mk, q5, q6⟩ := Cond.selects_spec hs
  have e1 : s.methodFound? "java/lang/Object" "getClass" "()Ljava/lang/Class;" = some m1 := State.methodFound?_of_named (x := ⟨"java/lang/Object", "getClass", "()Ljava/lang/Class;"⟩) hn1 (by decide)
  have e2 : s.methodFound? "java/util/Collection" "getClass" "()Ljava/lang/Class;" = s.methodFound? "java/lang/Object" "getClass" "()Ljava/lang/Class;" := hf1.trans e1.symm
  have e3 : (Cond.selects C ⟨"java/util/Collection", "getClass", "()Ljava/lang/Class;"⟩ ⟨"java/lang/Object", "getClass", "()Ljava/lang/Class;"⟩).before A s = (Cond.selects C ⟨"java/lang/Object", "getClass", "()Ljava/lang/Class;"⟩ ⟨"java/lang/Object", "getClass", "()Ljava/lang/Class;"⟩).before A s := by
    simp only [Cond.before, Cond.holds, Cond.value, e2]
  rw [e3]
  exact hs
section ZROW7
variable {X : zX} {R : Room} {E : zE} {μ : zM} {ce sl : Nat} {Q : State → Prop} {pc : Nat} {lv : List (Option Value)} {st : List Value} {cc : ByteArray} {own : String} {ret : Option FieldType} {nL : Nat} {a : Nat}
theorem z_getCJ (hX : zOK X E cc own ret nL) {idx count : Nat} {fs : List Value} (hlink : Cond.methodLink own idx ⟨"java/util/Collection", "getClass", "()Ljava/lang/Class;"⟩ ∈ lw_all) (hsel : Cond.selects "java/util/ArrayList" ⟨"java/lang/Object", "getClass", "()Ljava/lang/Class;"⟩ ⟨"java/lang/Object", "getClass", "()Ljava/lang/Class;"⟩ ∈ lw_all) (hinst : Cond.instanceMethod ⟨"java/lang/Object", "getClass", "()Ljava/lang/Class;"⟩ ∈ lw_all) (hnat : Cond.native ⟨"java/lang/Object", "getClass", "()Ljava/lang/Class;"⟩ ∈ lw_all) (hca : Cond.castable "java/util/ArrayList" "java/util/Collection" ∈ lw_tbl)
    (d : decode cc pc = .ok (.invokeinterface idx count, 5)) (ha : μ a = some (zob 17 fs)) (hlv : lv.length = nL) (hR : 1 ≤ R.frames ∧ 30 ≤ R.locals) (hW : (st.map fun v => v.category).sum ≤ 8) (k : zW X R E μ ce sl Q (pc + 5) lv (.ref (zs E 3) :: st)) : zW X R E μ ce sl Q pc lv (.ref a :: st) := fun H locs ls a1 a2 a3 => by
  obtain ⟨r, h1, cell, q1, q2, q3, q4⟩ := (a1 a _ ha).1
  have hc : zcl[17]? = some (RJ2, TJ2, 3) := rfl
  have hr : r = (RJ2, TJ2, 3) := Option.some.inj (h1.symm.trans hc)
  subst hr
  obtain ⟨hS, hfc, kC, hkC, hkind⟩ := hX.k.1 17 _ hc
  obtain ⟨c0, k0, m1, m2, m3⟩ := hX.T.2.2.2.2.1
  have e0 : c0 = (zD E).1 17 := Option.some.inj (m1.symm.trans hfc)
  subst e0
  have hg := hX.T.2.2.2.2.2.2.2
  have hs2 := zsel_I hg.1 (hX.t hsel)
  intro T hT XX
  obtain ⟨vm', X', step⟩ := XX.getClassOfI hX.x (C := "java/util/ArrayList") (xi := ⟨"java/util/Collection", "getClass", "()Ljava/lang/Class;"⟩) hX.o (hX.t hlink) (va_Dc.use hX.T.2.2.2.2.2.1) (va_any rfl hg.1) hs2 (hX.t hinst) (va_any rfl hg.2.1) (va_any rfl hg.2.2) (va_any rfl (hX.nw hca rfl)) (hX.t hnat) (by decide) (by decide) rfl rfl m1 m2 ⟨cell, by rw [hT]; exact q1, q2, by rw [q3]; rfl⟩ m3 (g := F0 (zXm X) pc ls (.ref a :: st)) rfl (by rw [hX.ml, ← hlv]; exact a3.1) rfl (by rw [hX.b]; exact d) hR.1 (by show 2 * 0 + _ + _ ≤ _; have hw : nativeFrameWords "java/lang/Object" "getClass" 1 = 3 := (by decide); omega)
  obtain ⟨t, b1, b2⟩ := k H locs ls a1 a2 a3 (T.setVm vm') hT X'
  exact ⟨t, step t b1, b2⟩
end ZROW7
theorem x_alC (l : Launch) (E : zE) {μ : zM} {a L arr c : Nat} {rs : List Nat} (h : AL E μ L arr c rs) {C : String} (hca : Cond.castable C "java/lang/Object" ∈ lw_tbl) (hel : ∀ r ∈ rs, zel C μ r) (ha : μ a = some (zob 17 [.int (zI 0), .null, .int (zI 0)])) {g0 : Int → Option Nat} (h0 : μ (zs E 0) = some (zaq E 3 0 g0)) : Met l yJ2_init_2 (ws_ yJ2_init_2 cJ2_init_2 3 none) (zR 4 1 rs.length) (va_Pc [.ref a, .ref L] (zPre E μ)) (zQv E (fun μ' => ∃ b, (μ b = none ∨ b = zs E 0 ∧ rs = []) ∧ AL E μ' a b rs.length rs ∧ ∀ q, q ≠ a → μ q ≠ none → μ' q = μ q)) 1 rs.length (zA E) := by
  have h' := h
  obtain ⟨mod, g, h1, h2, h3, h4, h5⟩ := h'
  refine zmetJ (cc := cJ2_init_2) [_, _, _] (by decide +kernel) (Nat.le_of_ble_eq_true rfl) rfl rfl ?_
  intro X hl hX hinit; subst hl
  have hX : zOK X _ cJ2_init_2 RJ2 none 3 := hX
  generalize hQ : MQ _ _ _ _ _ _ _ = Q
  refine z_aload_n hX rfl (by first | rfl | exact va_rf_r _) dJ2_init_2_0 ?_
  refine z_callv (z_runI hX (x_alA _ _ ha) (cwI 0 hX.ts (lw_meth q114) rfl rfl rfl (hX.t q67) (hX.t q112) (hX.t q113) rfl (by decide +kernel) (zroom (by decide) (by decide))) dJ2_init_2_1 rfl rfl rfl (by first | exact Nat.le_of_ble_eq_true rfl | simp [va_rf_c, Value.category]) (zhf (by omega) (by omega))) (fun μ_1 h_1 => ?_)
  obtain rfl := h_1; rw [zu_id ha]
  refine z_aload_n hX rfl (by first | rfl | exact va_rf_r _) dJ2_init_2_4 ?_
  refine z_callF hX (x_toArray _ _ h hca hel) (va_cwF 0 hX.ts (lw_F q249 q253 q255 q68 q257) rfl rfl rfl hX.T.2.2.2.2.2.2.1 (by decide +kernel) (zroom (by decide) (by decide))) dJ2_init_2_5 h1 rfl (Nat.le_of_ble_eq_true rfl) (zhf (by omega) (by omega)) (fun r_5 μ_5 h_5 => ?_)
  obtain ⟨b, g1, hb, rfl, hg, rfl⟩ := h_5
  have hab := zne ha hb
  have hLb := zne h1 hb
  have ha1 : zu μ b (zaq E 3 rs.length g1) a = some (zob 17 [.int (zI 0), .null, .int (zI 0)]) := zu_o hab ha
  have hL1 : zu μ b (zaq E 3 rs.length g1) L = some (zal mod arr rs.length) := zu_o hLb h1
  refine z_astore_n hX (lv' := [_, _, _]) (by first | rfl | exact va_rf_r _) (Nat.le_of_ble_eq_true rfl) (by first | exact zpre_0 | exact zpre_n rfl | exact zpre_1 rfl rfl | exact zpre_1 rfl (va_rf_c _)) rfl dJ2_init_2_10 ?_
  refine z_aload_n hX rfl (by first | rfl | exact va_rf_r _) dJ2_init_2_11 ?_
  refine z_aload_n hX rfl (by first | rfl | exact va_rf_r _) dJ2_init_2_12 ?_
  refine z_arraylength hX (t0 := 3) dJ2_init_2_13 (by first | assumption | exact zu_s _ _ _ | exact zu_o (by assumption) (by assumption) | exact zu_o (by assumption) (zu_o (by assumption) (by assumption)) | exact (zu_o (by first | assumption | exact Ne.symm (by assumption)) (zu_s _ _ _)) | exact (zu_o (by first | assumption | exact Ne.symm (by assumption)) (by assumption)) | exact (zu_o (by first | assumption | exact Ne.symm (by assumption)) (zu_o (by first | assumption | exact Ne.symm (by assumption)) (zu_s _ _ _))) | exact (zu_o (by first | assumption | exact Ne.symm (by assumption)) (zu_o (by first | assumption | exact Ne.symm (by assumption)) (by assumption))) | exact (zu_o (by first | assumption | exact Ne.symm (by assumption)) (zu_o (by first | assumption | exact Ne.symm (by assumption)) (zu_o (by first | assumption | exact Ne.symm (by assumption)) (zu_s _ _ _)))) | exact (zu_o (by first | assumption | exact Ne.symm (by assumption)) (zu_o (by first | assumption | exact Ne.symm (by assumption)) (zu_o (by first | assumption | exact Ne.symm (by assumption)) (by assumption)))) | exact (zu_o (by first | assumption | exact Ne.symm (by assumption)) (zu_o (by first | assumption | exact Ne.symm (by assumption)) (zu_o (by first | assumption | exact Ne.symm (by assumption)) (zu_o (by first | assumption | exact Ne.symm (by assumption)) (zu_s _ _ _))))) | exact (zu_o (by first | assumption | exact Ne.symm (by assumption)) (zu_o (by first | assumption | exact Ne.symm (by assumption)) (zu_o (by first | assumption | exact Ne.symm (by assumption)) (zu_o (by first | assumption | exact Ne.symm (by assumption)) (by assumption)))))) rfl ?_
  refine z_dup_x1 hX (by first | rfl | exact va_rf_c _) (by first | rfl | exact va_rf_c _) dJ2_init_2_14 ?_
  refine z_put hX (C := RJ2) (T := TJ2) (N := 3) (ci := 17) rfl in_J2 tyJ2 tyJ2_ok zn_J2 2 (by decide) q124 (Or.inl rfl) rfl rfl dJ2_init_2_15 (by first | assumption | exact zu_s _ _ _ | exact zu_o (by assumption) (by assumption) | exact zu_o (by assumption) (zu_o (by assumption) (by assumption)) | exact (zu_o (by first | assumption | exact Ne.symm (by assumption)) (zu_s _ _ _)) | exact (zu_o (by first | assumption | exact Ne.symm (by assumption)) (by assumption)) | exact (zu_o (by first | assumption | exact Ne.symm (by assumption)) (zu_o (by first | assumption | exact Ne.symm (by assumption)) (zu_s _ _ _))) | exact (zu_o (by first | assumption | exact Ne.symm (by assumption)) (zu_o (by first | assumption | exact Ne.symm (by assumption)) (by assumption))) | exact (zu_o (by first | assumption | exact Ne.symm (by assumption)) (zu_o (by first | assumption | exact Ne.symm (by assumption)) (zu_o (by first | assumption | exact Ne.symm (by assumption)) (zu_s _ _ _)))) | exact (zu_o (by first | assumption | exact Ne.symm (by assumption)) (zu_o (by first | assumption | exact Ne.symm (by assumption)) (zu_o (by first | assumption | exact Ne.symm (by assumption)) (by assumption)))) | exact (zu_o (by first | assumption | exact Ne.symm (by assumption)) (zu_o (by first | assumption | exact Ne.symm (by assumption)) (zu_o (by first | assumption | exact Ne.symm (by assumption)) (zu_o (by first | assumption | exact Ne.symm (by assumption)) (zu_s _ _ _))))) | exact (zu_o (by first | assumption | exact Ne.symm (by assumption)) (zu_o (by first | assumption | exact Ne.symm (by assumption)) (zu_o (by first | assumption | exact Ne.symm (by assumption)) (zu_o (by first | assumption | exact Ne.symm (by assumption)) (by assumption)))))) (Nat.le_of_ble_eq_true rfl) (by first | rfl | exact znar _ | exact znarb _) (by first | rfl | exact zfit _ | exact zfitb _) rfl ?_
  refine z_if_eq hX (by omega) dJ2_init_2_18 (tgt := 57) rfl (fun h_18 => ?_) (fun h_18 => ?_)
  · have hr0 : rs = [] := List.length_eq_zero_iff.mp (by omega)
    have h0a : zs E 0 ≠ a := by intro q; rw [q, ha] at h0; cases h0
    have h0b : zs E 0 ≠ b := zne h0 hb
    refine z_aload_n hX rfl (by first | rfl | exact va_rf_r _) dJ2_init_2_57 ?_
    refine z_gets hX hX.S.1 q121 dJ2_init_2_58 ?_
    refine z_put hX (C := RJ2) (T := TJ2) (N := 3) (ci := 17) rfl in_J2 tyJ2 tyJ2_ok zn_J2 1 (by decide) q123 (Or.inl rfl) rfl rfl dJ2_init_2_61 (by first | assumption | exact zu_s _ _ _ | exact zu_o (by assumption) (by assumption) | exact zu_o (by assumption) (zu_o (by assumption) (by assumption)) | exact (zu_o (by first | assumption | exact Ne.symm (by assumption)) (zu_s _ _ _)) | exact (zu_o (by first | assumption | exact Ne.symm (by assumption)) (by assumption)) | exact (zu_o (by first | assumption | exact Ne.symm (by assumption)) (zu_o (by first | assumption | exact Ne.symm (by assumption)) (zu_s _ _ _))) | exact (zu_o (by first | assumption | exact Ne.symm (by assumption)) (zu_o (by first | assumption | exact Ne.symm (by assumption)) (by assumption))) | exact (zu_o (by first | assumption | exact Ne.symm (by assumption)) (zu_o (by first | assumption | exact Ne.symm (by assumption)) (zu_o (by first | assumption | exact Ne.symm (by assumption)) (zu_s _ _ _)))) | exact (zu_o (by first | assumption | exact Ne.symm (by assumption)) (zu_o (by first | assumption | exact Ne.symm (by assumption)) (zu_o (by first | assumption | exact Ne.symm (by assumption)) (by assumption)))) | exact (zu_o (by first | assumption | exact Ne.symm (by assumption)) (zu_o (by first | assumption | exact Ne.symm (by assumption)) (zu_o (by first | assumption | exact Ne.symm (by assumption)) (zu_o (by first | assumption | exact Ne.symm (by assumption)) (zu_s _ _ _))))) | exact (zu_o (by first | assumption | exact Ne.symm (by assumption)) (zu_o (by first | assumption | exact Ne.symm (by assumption)) (zu_o (by first | assumption | exact Ne.symm (by assumption)) (zu_o (by first | assumption | exact Ne.symm (by assumption)) (by assumption)))))) (Nat.le_of_ble_eq_true rfl) (by first | rfl | exact znar _ | exact znarb _) (by first | rfl | exact zfit _ | exact zfitb _) rfl ?_
    (try rw [← hQ])
    refine z_return hX dJ2_init_2_64 (by omega) (by omega) ?_
    refine ⟨zs E 0, Or.inr ⟨rfl, hr0⟩, ⟨0, g0, (zu_s _ _ _).trans rfl, ?_, Nat.le_refl _, by omega, fun i hi => ?_⟩, fun q q1 q3 => ?_⟩
    · rw [zu_n h0a, zu_n h0a, zu_n h0b, hr0]; exact h0
    · rw [hr0] at hi; exact absurd hi (by simp)
    · rw [zu_n q1, zu_n q1]
      by_cases e : q = b
      · rw [e] at q3; exact absurd hb q3
      · rw [zu_n e]
  · have hLa : L ≠ a := by intro q; rw [q, ha] at h1; exact absurd (Option.some.inj h1) (by simp [zob])
    have hL2 : ∀ e, zu (zu μ b (zaq E 3 rs.length g1)) a e L = some (zal mod arr rs.length) := fun e => zu_o hLa hL1
    refine z_aload_n hX rfl (by first | rfl | exact va_rf_r _) dJ2_init_2_21 ?_
    refine z_getCJ hX q304 q281 q262 q284 q252 dJ2_init_2_22 (hL2 _) rfl ⟨Nat.le_of_ble_eq_true rfl, Nat.le_of_ble_eq_true rfl⟩ (Nat.le_of_ble_eq_true rfl) ?_
    refine z_ldcM hX hX.T.2.2.2.2.1 q310 dJ2_init_2_27 ?_
    refine z_acmp_ne hX (r := some (zs E 3)) (q := some (zs E 3)) dJ2_init_2_29 (tgt := 40) rfl (fun h => absurd rfl h) (fun _ => ?_)
    refine z_aload_n hX rfl (by first | rfl | exact va_rf_r _) dJ2_init_2_32 ?_
    refine z_aload_n hX rfl (by first | rfl | exact va_rf_r _) dJ2_init_2_33 ?_
    refine z_put hX (C := RJ2) (T := TJ2) (N := 3) (ci := 17) rfl in_J2 tyJ2 tyJ2_ok zn_J2 1 (by decide) q123 (Or.inl rfl) rfl rfl dJ2_init_2_34 (by first | assumption | exact zu_s _ _ _ | exact zu_o (by assumption) (by assumption) | exact zu_o (by assumption) (zu_o (by assumption) (by assumption)) | exact (zu_o (by first | assumption | exact Ne.symm (by assumption)) (zu_s _ _ _)) | exact (zu_o (by first | assumption | exact Ne.symm (by assumption)) (by assumption)) | exact (zu_o (by first | assumption | exact Ne.symm (by assumption)) (zu_o (by first | assumption | exact Ne.symm (by assumption)) (zu_s _ _ _))) | exact (zu_o (by first | assumption | exact Ne.symm (by assumption)) (zu_o (by first | assumption | exact Ne.symm (by assumption)) (by assumption))) | exact (zu_o (by first | assumption | exact Ne.symm (by assumption)) (zu_o (by first | assumption | exact Ne.symm (by assumption)) (zu_o (by first | assumption | exact Ne.symm (by assumption)) (zu_s _ _ _)))) | exact (zu_o (by first | assumption | exact Ne.symm (by assumption)) (zu_o (by first | assumption | exact Ne.symm (by assumption)) (zu_o (by first | assumption | exact Ne.symm (by assumption)) (by assumption)))) | exact (zu_o (by first | assumption | exact Ne.symm (by assumption)) (zu_o (by first | assumption | exact Ne.symm (by assumption)) (zu_o (by first | assumption | exact Ne.symm (by assumption)) (zu_o (by first | assumption | exact Ne.symm (by assumption)) (zu_s _ _ _))))) | exact (zu_o (by first | assumption | exact Ne.symm (by assumption)) (zu_o (by first | assumption | exact Ne.symm (by assumption)) (zu_o (by first | assumption | exact Ne.symm (by assumption)) (zu_o (by first | assumption | exact Ne.symm (by assumption)) (by assumption)))))) (Nat.le_of_ble_eq_true rfl) (by first | rfl | exact znar _ | exact znarb _) (by first | rfl | exact zfit _ | exact zfitb _) rfl ?_
    refine z_goto hX (tgt := 64) dJ2_init_2_37 rfl ?_
    (try rw [← hQ])
    refine z_return hX dJ2_init_2_64 (by omega) (by omega) ?_
    refine ⟨b, Or.inl hb, ⟨0, g1, (zu_s _ _ _).trans rfl, ?_, Nat.le_refl _, by omega, hg⟩, fun q q1 q3 => by rw [zu_n q1, zu_n q1, zu_n (fun e => q3 (by rw [e]; exact hb))]⟩
    rw [zu_n (Ne.symm hab), zu_n (Ne.symm hab), zu_s]
