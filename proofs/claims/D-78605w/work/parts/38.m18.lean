/-! MODEL 18: the digest -/
set_option maxRecDepth 100000
def dgM (h v : Int) : Int := 31 * h + v
def poF (a : Int → Int) (v : Int) : Int := potR a v
def dg9 (s : Nat → Int) (A : Nat → Int → Int) : List Int := (er 0 (s 5)).map (A 4)
def dg8 (s : Nat → Int) (A : Nat → Int → Int) : List Int := (er 0 (4 * s 11)).map (A 10) ++ dg9 s A
def dg7 (s : Nat → Int) (A : Nat → Int → Int) : List Int := (if s 7 = -1000001 then [] else s 8 :: s 9 :: (er 0 (s 7)).map (A 6)) ++ dg8 s A
def dg6 (s : Nat → Int) (A : Nat → Int → Int) : List Int := (er 0 4).map (fun k => feasR k (nAll (A 0))) ++ dg7 s A
def dg5 (s : Nat → Int) (A : Nat → Int → Int) : List Int := (er 0 3).map (fun k => cyN k (A 0) (gC (A 0))) ++ dg6 s A
def dg4 (s : Nat → Int) (A : Nat → Int → Int) : List Int := tightR (A 0) :: dg5 s A
def dg3 (s : Nat → Int) (A : Nat → Int → Int) : List Int := (er 0 8).map (potR (A 0)) ++ dg4 s A
def dg2 (s : Nat → Int) (A : Nat → Int → Int) : List Int := (er 0 (7 * A 0 112)).map (A 0) ++ dg3 s A
def dg1 (s : Nat → Int) (A : Nat → Int → Int) : List Int := (er 0 6).map (cnF s A) ++ dg2 s A
/-- the digest -/
def dgF (s : Nat → Int) (A : Nat → Int → Int) : Int := (dg1 s A).foldl dgM 83
abbrev kdS : List Nat := [18, 19, 20, 21, 23, 24, 25, 31, 32, 33, 34, 35, 36, 37, 38]
theorem mV_sag {s s' : Nat → Int} {A A' : Nat → Int → Int} (h : mV s A) (hs : sag kdS s s') (hA : sag kpA A A') : mV s' A' := by
  unfold mV at h ⊢
  rw [hs 2 (by decide), hs 5 (by decide), hs 7 (by decide), hs 11 (by decide), hs 12 (by decide), hA 0 (by decide), hA 1 (by decide), hA 3 (by decide), hA 4 (by decide)]
  exact h
theorem cnF_sag {s s' : Nat → Int} {A A' : Nat → Int → Int} (hs : sag kdS s s') (hA : sag kpA A A') (k : Int) : cnF s' A' k = cnF s A k := by
  unfold cnF
  rw [hs 2 (by decide), hs 5 (by decide), hs 11 (by decide), hA 0 (by decide)]
theorem gV_cell {a : Int → Int} (hg : gV a) {i : Int} (h0 : 0 ≤ i) (h1 : i < 7 * a 112) : -99 ≤ a i ∧ a i ≤ 99 := by
  have h := hg.2 (i / 7) (by omega) (by omega)
  unfold eV at h
  have hi : i = 7 * (i / 7) + i % 7 := by omega
  have h2 : 0 ≤ i % 7 ∧ i % 7 ≤ 6 := by omega
  rw [hi]
  generalize i / 7 = q at *
  generalize i % 7 = r at *
  clear hi h0 h1
  obtain rfl | rfl | rfl | rfl | rfl | rfl | rfl : r = 0 ∨ r = 1 ∨ r = 2 ∨ r = 3 ∨ r = 4 ∨ r = 5 ∨ r = 6 := by omega
  · rw [Int.add_zero]; omega
  all_goals omega
theorem gC_len {a : Int → Int} (hg : gV a) : (gC a).length ≤ 718 := gC_cnt (es := er 0 (a 112)) (fun e he => by
  have := gV_to hg e (er_mem.mp he).1 (er_mem.mp he).2
  omega) (by rw [er_len]; have := hg.1; omega)
theorem prN_r (a : Int → Int) : 0 ≤ prN a ∧ prN a ≤ 64 := by
  unfold prN
  have : ∀ us : List Int, 0 ≤ (us.map (fun u => bitsN (prW a u) (er 0 8))).sum ∧ (us.map (fun u => bitsN (prW a u) (er 0 8))).sum ≤ 8 * us.length := by
    intro us
    induction us with
    | nil => simp
    | cons u us ih =>
      have h := bitsN_r (prW a u) (er 0 8)
      rw [er_len] at h
      rw [List.map_cons, List.sum_cons, List.length_cons]
      omega
  have h := this (er 0 8)
  rw [er_len] at h
  omega
theorem tightR_r {a : Int → Int} (hg : gV a) : 0 ≤ tightR a ∧ tightR a ≤ 65535 := by
  have hn := hg.1
  unfold tightR
  split
  · rename_i F b _ _
    have h := tgL_lt (a := a) (c := cMean a b) (f := F) (er 0 (a 112)) 0 (fun e he => by have := er_mem.mp he; omega) (by decide)
    omega
  · omega
theorem cnF_r {s : Nat → Int} {A : Nat → Int → Int} (hV : mV s A) (k : Int) : -1000002 ≤ cnF s A k ∧ cnF s A k ≤ 1000000 := by
  have hg : gV (A 0) := hV.1
  have hn := hg.1
  have hw := esum_b (a := A 0) (w := 2) (lo := -99) (hi := 99) (er 0 (A 0 112)) (fun e he => by
    have h := hg.2 e (er_mem.mp he).1 (er_mem.mp he).2
    unfold eV at h
    omega)
  rw [er_len] at hw
  have hp := prN_r (A 0)
  obtain ⟨-, hv2, -, -, hv5, -, hv7, hv11, -⟩ := hV
  unfold cnF gBAD
  repeat' split
  all_goals omega
theorem m_digest (l : Launch) (E : zE) {ν : zM} {m0 : Nat} {ad : Nat → Nat} {s : Nat → Int} {A : Nat → Int → Int} (hD : mD m0 ad) (hV : mV s A) (hF : ∀ j, 0 ≤ j → j < s 7 → 0 ≤ A 6 j ∧ A 6 j ≤ 15) (hpr : ∀ F, potG (A 0) = some F → bd8 F 1000000000000) : Met l yX1_digest (ws_ yX1_digest cX1_digest 2 (some .long)) (zR 8 0 0) (va_Pc [.ref m0] (zPre E (mM E ν m0 ad s A))) (zQl E (fun r μ' => ∃ s' A', sag kdS s s' ∧ sag kpA A A' ∧ dgF s A = r ∧ mM E ν m0 ad s' A' = μ')) 0 0 (zA E) := by
  have hg : gV (A 0) := hV.1
  have hn := hg.1
  have hV' := hV
  obtain ⟨-, -, -, -, hv5, hv4, hv7, hv11, -⟩ := hV'
  have hgc := gC_len hg
  have htr := tightR_r hg
  refine zmet (cc := cX1_digest) [_, _] (by decide) (Nat.le_of_ble_eq_true rfl) rfl rfl ?_
  intro X hl hX hinit; subst hl
  have hX : zOK X _ cX1_digest RX1 (some .long) 2 := hX
  generalize hQ : MQ _ _ _ _ _ _ _ = Q
  have L9 : ∀ (k : Nat) (i : Int) (s1 : Nat → Int) (A1 : Nat → Int → Int), 0 ≤ i → i ≤ s 5 → s 5 < i + k → sag kdS s s1 → sag kpA A A1 → ((er i (s 5)).map (A 4) ++ []).foldl dgM (s1 38) = dgF s A → zW X (zR 8 0 0) E (mM E ν m0 ad s1 A1) 0 0 Q 223 [some (.ref m0), some (.int (zI i))] [] := by
    intro k
    induction k with
    | zero => intros; exfalso; omega
    | succ k ih =>
      intro i s1 A1 h0 h8 hk hs hA he
      have a0 : A1 0 = A 0 := hA 0 (by decide)
      have k5 : s1 5 = s 5 := hs 5 (by decide)
      have hg1 : gV (A1 0) := by rw [a0]; exact hg
      refine z_iload_n hX rfl dX1_digest_223 ?_
      refine z_aload_n hX rfl (by first | rfl | exact va_rf_r _) dX1_digest_224 ?_
      refine zm_get hX 5 (by decide) q1375 dX1_digest_225 rfl rfl ?_
      refine z_icmp_ge hX (by omega) (by omega) dX1_digest_228 (tgt := 248) rfl (fun h_228 => ?_) (fun h_228 => ?_)
      · rw [er_nil (by omega), List.map_nil, List.nil_append] at he
        refine z_aload_n hX rfl (by first | rfl | exact va_rf_r _) dX1_digest_248 ?_
        refine zm_get hX 38 (by decide) q1408 dX1_digest_249 rfl rfl ?_
        (try rw [← hQ])
        refine z_lreturn hX dX1_digest_252 (by omega) (by omega) ?_
        exact ⟨s1, A1, hs, hA, he.symm, rfl⟩
      · rw [er_cons (show i < s 5 by omega), List.map_cons, List.cons_append, List.foldl_cons] at he
        have hb := hv4 i h0 (by omega)
        rw [← hA 4 (by decide)] at hb
        refine z_aload_n hX rfl (by first | rfl | exact va_rf_r _) dX1_digest_231 ?_
        refine z_aload_n hX rfl (by first | rfl | exact va_rf_r _) dX1_digest_232 ?_
        refine zm_get hX 4 (by decide) q1374 dX1_digest_233 rfl rfl ?_
        refine z_iload_n hX rfl dX1_digest_236 ?_
        refine zm_iaload hX hD 4 (by decide) (by decide) 150 rfl dX1_digest_237 (by omega) ?_
        refine z_i2l hX (by omega) dX1_digest_238 ?_
        refine z_callv (z_runV hX (m_mixes _ _ hD) (cwV 1 hX.ts (lw_V q1775 q1777 qs63 q71 q1778) rfl rfl rfl (by decide +kernel) (zroom (by decide) (by decide))) dX1_digest_239 mM_0 (ci := 1) rfl rfl rfl rfl (by first | exact Nat.le_of_ble_eq_true rfl | simp [va_rf_c, Value.category]) (zhf (by omega) (by omega))) (fun μ_239 h_239 => ?_)
        obtain rfl := h_239
        refine z_iinc hX (lv' := [_, _]) rfl (Nat.le_of_ble_eq_true rfl) (by first | exact zpre_0 | exact zpre_n rfl | exact zpre_1 rfl rfl | exact zpre_1 rfl (va_rf_c _)) rfl dX1_digest_242 ?_
        refine z_goto hX (tgt := 223) dX1_digest_245 rfl ?_
        rw [hA 4 (by decide)]
        rw [dgM] at he
        exact ih (i + 1) _ A1 (by omega) (by omega) (by omega) (hs.up2 (by simp)) hA (by rw [zg_s, List.append_nil]; rw [List.append_nil] at he; exact he)
  have L8 : ∀ (k : Nat) (i : Int) (s1 : Nat → Int) (A1 : Nat → Int → Int), 0 ≤ i → i ≤ 4 * s 11 → 4 * s 11 < i + k → sag kdS s s1 → sag kpA A A1 → ((er i (4 * s 11)).map (A 10) ++ dg9 s A).foldl dgM (s1 38) = dgF s A → zW X (zR 8 0 0) E (mM E ν m0 ad s1 A1) 0 0 Q 195 [some (.ref m0), some (.int (zI i))] [] := by
    intro k
    induction k with
    | zero => intros; exfalso; omega
    | succ k ih =>
      intro i s1 A1 h0 h8 hk hs hA he
      have a0 : A1 0 = A 0 := hA 0 (by decide)
      have k11 : s1 11 = s 11 := hs 11 (by decide)
      have hg1 : gV (A1 0) := by rw [a0]; exact hg
      refine z_iload_n hX rfl dX1_digest_195 ?_
      refine z_iconst hX dX1_digest_196 ?_
      refine z_aload_n hX rfl (by first | rfl | exact va_rf_r _) dX1_digest_197 ?_
      refine zm_get hX 11 (by decide) q1381 dX1_digest_198 rfl rfl ?_
      refine z_imul hX dX1_digest_201 ?_
      refine z_icmp_ge hX (by omega) (by omega) dX1_digest_202 (tgt := 221) rfl (fun h_202 => ?_) (fun h_202 => ?_)
      · rw [er_nil (by omega), List.map_nil, List.nil_append] at he
        refine z_iconst hX dX1_digest_221 ?_
        refine z_istore_n hX (lv' := [_, _]) (Nat.le_of_ble_eq_true rfl) (by first | exact zpre_0 | exact zpre_n rfl | exact zpre_1 rfl rfl | exact zpre_1 rfl (va_rf_c _)) rfl dX1_digest_222 ?_
        exact L9 (s 5 + 1).toNat 0 s1 A1 (by omega) (by omega) (by omega) hs hA (by rw [List.append_nil]; exact he)
      · rw [er_cons (show i < 4 * s 11 by omega), List.map_cons, List.cons_append, List.foldl_cons] at he
        refine z_aload_n hX rfl (by first | rfl | exact va_rf_r _) dX1_digest_205 ?_
        refine z_aload_n hX rfl (by first | rfl | exact va_rf_r _) dX1_digest_206 ?_
        refine zm_get hX 10 (by decide) q1380 dX1_digest_207 rfl rfl ?_
        refine z_iload_n hX rfl dX1_digest_210 ?_
        refine zm_laload hX hD 10 (by decide) (by decide) 512 rfl dX1_digest_211 (by omega) ?_
        refine z_callv (z_runV hX (m_mixes _ _ hD) (cwV 1 hX.ts (lw_V q1775 q1777 qs63 q71 q1778) rfl rfl rfl (by decide +kernel) (zroom (by decide) (by decide))) dX1_digest_212 mM_0 (ci := 1) rfl rfl rfl rfl (by first | exact Nat.le_of_ble_eq_true rfl | simp [va_rf_c, Value.category]) (zhf (by omega) (by omega))) (fun μ_212 h_212 => ?_)
        obtain rfl := h_212
        refine z_iinc hX (lv' := [_, _]) rfl (Nat.le_of_ble_eq_true rfl) (by first | exact zpre_0 | exact zpre_n rfl | exact zpre_1 rfl rfl | exact zpre_1 rfl (va_rf_c _)) rfl dX1_digest_215 ?_
        refine z_goto hX (tgt := 195) dX1_digest_218 rfl ?_
        rw [hA 10 (by decide)]
        rw [dgM] at he
        exact ih (i + 1) _ A1 (by omega) (by omega) (by omega) (hs.up2 (by simp)) hA (by rw [zg_s]; exact he)
  have L7 : ∀ (k : Nat) (i : Int) (s1 : Nat → Int) (A1 : Nat → Int → Int), 0 ≤ i → i ≤ s 7 → s 7 < i + k → sag kdS s s1 → sag kpA A A1 → ((er i (s 7)).map (A 6) ++ dg8 s A).foldl dgM (s1 38) = dgF s A → zW X (zR 8 0 0) E (mM E ν m0 ad s1 A1) 0 0 Q 168 [some (.ref m0), some (.int (zI i))] [] := by
    intro k
    induction k with
    | zero => intros; exfalso; omega
    | succ k ih =>
      intro i s1 A1 h0 h8 hk hs hA he
      have a0 : A1 0 = A 0 := hA 0 (by decide)
      have k7 : s1 7 = s 7 := hs 7 (by decide)
      have hg1 : gV (A1 0) := by rw [a0]; exact hg
      refine z_iload_n hX rfl dX1_digest_168 ?_
      refine z_aload_n hX rfl (by first | rfl | exact va_rf_r _) dX1_digest_169 ?_
      refine zm_get hX 7 (by decide) q1377 dX1_digest_170 rfl rfl ?_
      refine z_icmp_ge hX (by omega) (by omega) dX1_digest_173 (tgt := 193) rfl (fun h_173 => ?_) (fun h_173 => ?_)
      · rw [er_nil (by omega), List.map_nil, List.nil_append] at he
        refine z_iconst hX dX1_digest_193 ?_
        refine z_istore_n hX (lv' := [_, _]) (Nat.le_of_ble_eq_true rfl) (by first | exact zpre_0 | exact zpre_n rfl | exact zpre_1 rfl rfl | exact zpre_1 rfl (va_rf_c _)) rfl dX1_digest_194 ?_
        exact L8 (4 * s 11 + 1).toNat 0 s1 A1 (by omega) (by omega) (by omega) hs hA he
      · rw [er_cons (show i < s 7 by omega), List.map_cons, List.cons_append, List.foldl_cons] at he
        have hb := hF i h0 (by omega)
        rw [← hA 6 (by decide)] at hb
        refine z_aload_n hX rfl (by first | rfl | exact va_rf_r _) dX1_digest_176 ?_
        refine z_aload_n hX rfl (by first | rfl | exact va_rf_r _) dX1_digest_177 ?_
        refine zm_get hX 6 (by decide) q1376 dX1_digest_178 rfl rfl ?_
        refine z_iload_n hX rfl dX1_digest_181 ?_
        refine zm_iaload hX hD 6 (by decide) (by decide) 8 rfl dX1_digest_182 (by omega) ?_
        refine z_i2l hX (by omega) dX1_digest_183 ?_
        refine z_callv (z_runV hX (m_mixes _ _ hD) (cwV 1 hX.ts (lw_V q1775 q1777 qs63 q71 q1778) rfl rfl rfl (by decide +kernel) (zroom (by decide) (by decide))) dX1_digest_184 mM_0 (ci := 1) rfl rfl rfl rfl (by first | exact Nat.le_of_ble_eq_true rfl | simp [va_rf_c, Value.category]) (zhf (by omega) (by omega))) (fun μ_184 h_184 => ?_)
        obtain rfl := h_184
        refine z_iinc hX (lv' := [_, _]) rfl (Nat.le_of_ble_eq_true rfl) (by first | exact zpre_0 | exact zpre_n rfl | exact zpre_1 rfl rfl | exact zpre_1 rfl (va_rf_c _)) rfl dX1_digest_187 ?_
        refine z_goto hX (tgt := 168) dX1_digest_190 rfl ?_
        rw [hA 6 (by decide)]
        rw [dgM] at he
        exact ih (i + 1) _ A1 (by omega) (by omega) (by omega) (hs.up2 (by simp)) hA (by rw [zg_s]; exact he)
  have S7 : ∀ s1 A1, sag kdS s s1 → sag kpA A A1 → (dg7 s A).foldl dgM (s1 38) = dgF s A → zW X (zR 8 0 0) E (mM E ν m0 ad s1 A1) 0 0 Q 141 [some (.ref m0), some (.int (zI 4))] [] := by
    intro s1 A1 hs hA he
    have k7 : s1 7 = s 7 := hs 7 (by decide)
    unfold dg7 at he
    refine z_aload_n hX rfl (by first | rfl | exact va_rf_r _) dX1_digest_141 ?_
    refine zm_get hX 7 (by decide) q1377 dX1_digest_142 rfl rfl ?_
    refine z_ldc hX (z := -1000001) q1369 (by decide) dX1_digest_145 ?_
    refine z_icmp_eq hX (by omega) (by omega) dX1_digest_147 (tgt := 193) rfl (fun h_147 => ?_) (fun h_147 => ?_)
    · rw [if_pos (by omega), List.nil_append] at he
      refine z_iconst hX dX1_digest_193 ?_
      refine z_istore_n hX (lv' := [_, _]) (Nat.le_of_ble_eq_true rfl) (by first | exact zpre_0 | exact zpre_n rfl | exact zpre_1 rfl rfl | exact zpre_1 rfl (va_rf_c _)) rfl dX1_digest_194 ?_
      exact L8 (4 * s 11 + 1).toNat 0 s1 A1 (by omega) (by omega) (by omega) hs hA he
    · rw [if_neg (by omega), List.cons_append, List.cons_append, List.foldl_cons, List.foldl_cons] at he
      refine z_aload_n hX rfl (by first | rfl | exact va_rf_r _) dX1_digest_150 ?_
      refine z_aload_n hX rfl (by first | rfl | exact va_rf_r _) dX1_digest_151 ?_
      refine zm_get hX 8 (by decide) q1378 dX1_digest_152 rfl rfl ?_
      refine z_callv (z_runV hX (m_mixes _ _ hD) (cwV 1 hX.ts (lw_V q1775 q1777 qs63 q71 q1778) rfl rfl rfl (by decide +kernel) (zroom (by decide) (by decide))) dX1_digest_155 mM_0 (ci := 1) rfl rfl rfl rfl (by first | exact Nat.le_of_ble_eq_true rfl | simp [va_rf_c, Value.category]) (zhf (by omega) (by omega))) (fun μ_155 h_155 => ?_)
      obtain rfl := h_155
      refine z_aload_n hX rfl (by first | rfl | exact va_rf_r _) dX1_digest_158 ?_
      refine z_aload_n hX rfl (by first | rfl | exact va_rf_r _) dX1_digest_159 ?_
      refine zm_get hX 9 (by decide) q1379 dX1_digest_160 rfl rfl ?_
      refine z_callv (z_runV hX (m_mixes _ _ hD) (cwV 1 hX.ts (lw_V q1775 q1777 qs63 q71 q1778) rfl rfl rfl (by decide +kernel) (zroom (by decide) (by decide))) dX1_digest_163 mM_0 (ci := 1) rfl rfl rfl rfl (by first | exact Nat.le_of_ble_eq_true rfl | simp [va_rf_c, Value.category]) (zhf (by omega) (by omega))) (fun μ_163 h_163 => ?_)
      obtain rfl := h_163
      refine z_iconst hX dX1_digest_166 ?_
      refine z_istore_n hX (lv' := [_, _]) (Nat.le_of_ble_eq_true rfl) (by first | exact zpre_0 | exact zpre_n rfl | exact zpre_1 rfl rfl | exact zpre_1 rfl (va_rf_c _)) rfl dX1_digest_167 ?_
      rw [dgM, dgM] at he
      refine L7 (s 7 + 1).toNat 0 _ A1 (by omega) (by omega) (by omega) ((hs.up2 (k := 38) (by simp)).up2 (k := 38) (by simp)) hA ?_
      rw [zg_s, zg_s, zg_n (show (9 : Nat) ≠ 38 by decide), hs 8 (by decide), hs 9 (by decide)]
      exact he
  have L6 : ∀ (k : Nat) (i : Int) (s1 : Nat → Int) (A1 : Nat → Int → Int), 0 ≤ i → i ≤ 4 → 4 < i + k → sag kdS s s1 → sag kpA A A1 → ((er i (4)).map (fun k => feasR k (nAll (A 0))) ++ dg7 s A).foldl dgM (s1 38) = dgF s A → zW X (zR 8 0 0) E (mM E ν m0 ad s1 A1) 0 0 Q 121 [some (.ref m0), some (.int (zI i))] [] := by
    intro k
    induction k with
    | zero => intros; exfalso; omega
    | succ k ih =>
      intro i s1 A1 h0 h8 hk hs hA he
      have a0 : A1 0 = A 0 := hA 0 (by decide)
      have hg1 : gV (A1 0) := by rw [a0]; exact hg
      refine z_iload_n hX rfl dX1_digest_121 ?_
      refine z_iconst hX dX1_digest_122 ?_
      refine z_icmp_ge hX (by omega) (by omega) dX1_digest_123 (tgt := 141) rfl (fun h_123 => ?_) (fun h_123 => ?_)
      · rw [er_nil (by omega), List.map_nil, List.nil_append] at he
        obtain rfl : i = 4 := by omega
        exact S7 s1 A1 hs hA he
      · rw [er_cons (show i < 4 by omega), List.map_cons, List.cons_append, List.foldl_cons] at he
        refine z_aload_n hX rfl (by first | rfl | exact va_rf_r _) dX1_digest_126 ?_
        refine z_aload_n hX rfl (by first | rfl | exact va_rf_r _) dX1_digest_127 ?_
        refine z_iload_n hX rfl dX1_digest_128 ?_
        refine z_calll (z_runV hX (m_feasible _ _ hD hg1 (by omega)) (cwV 1 hX.ts (lw_V q1783 q1746 q1747 q71 q1748) rfl rfl rfl (by decide +kernel) (zroom (by decide) (by decide))) dX1_digest_129 mM_0 (ci := 1) rfl rfl rfl rfl (by first | exact Nat.le_of_ble_eq_true rfl | simp [va_rf_c, Value.category]) (zhf (by omega) (by omega))) (fun r_129 μ_129 h_129 => ?_)
        obtain ⟨s2, A2, h1, h2, h3, rfl⟩ := h_129; rw [if_pos (by omega), a0] at h3; subst h3
        refine z_callv (z_runV hX (m_mixes _ _ hD) (cwV 1 hX.ts (lw_V q1775 q1777 qs63 q71 q1778) rfl rfl rfl (by decide +kernel) (zroom (by decide) (by decide))) dX1_digest_132 mM_0 (ci := 1) rfl rfl rfl rfl (by first | exact Nat.le_of_ble_eq_true rfl | simp [va_rf_c, Value.category]) (zhf (by omega) (by omega))) (fun μ_132 h_132 => ?_)
        obtain rfl := h_132
        refine z_iinc hX (lv' := [_, _]) rfl (Nat.le_of_ble_eq_true rfl) (by first | exact zpre_0 | exact zpre_n rfl | exact zpre_1 rfl rfl | exact zpre_1 rfl (va_rf_c _)) rfl dX1_digest_135 ?_
        refine z_goto hX (tgt := 121) dX1_digest_138 rfl ?_
        rw [dgM] at he
        exact ih (i + 1) _ A2 (by omega) (by omega) (by omega) ((hs.tr h1 (ks := kdS) (by intro k hk; simp only [List.mem_cons, List.not_mem_nil, or_false, not_or] at hk ⊢; omega)).up2 (by simp)) (hA.tr h2 (ks := kpA) (by intro k hk; simp only [List.mem_cons, List.not_mem_nil, or_false, not_or] at hk ⊢; omega)) (by rw [zg_s, h1 38 (by decide)]; exact he)
  have L5 : ∀ (k : Nat) (i : Int) (s1 : Nat → Int) (A1 : Nat → Int → Int), 0 ≤ i → i ≤ 3 → 3 < i + k → sag kdS s s1 → sag kpA A A1 → ((er i (3)).map (fun k => cyN k (A 0) (gC (A 0))) ++ dg6 s A).foldl dgM (s1 38) = dgF s A → zW X (zR 8 0 0) E (mM E ν m0 ad s1 A1) 0 0 Q 98 [some (.ref m0), some (.int (zI i))] [] := by
    intro k
    induction k with
    | zero => intros; exfalso; omega
    | succ k ih =>
      intro i s1 A1 h0 h8 hk hs hA he
      have a0 : A1 0 = A 0 := hA 0 (by decide)
      have hg1 : gV (A1 0) := by rw [a0]; exact hg
      refine z_iload_n hX rfl dX1_digest_98 ?_
      refine z_iconst hX dX1_digest_99 ?_
      refine z_icmp_ge hX (by omega) (by omega) dX1_digest_100 (tgt := 119) rfl (fun h_100 => ?_) (fun h_100 => ?_)
      · rw [er_nil (by omega), List.map_nil, List.nil_append] at he
        refine z_iconst hX dX1_digest_119 ?_
        refine z_istore_n hX (lv' := [_, _]) (Nat.le_of_ble_eq_true rfl) (by first | exact zpre_0 | exact zpre_n rfl | exact zpre_1 rfl rfl | exact zpre_1 rfl (va_rf_c _)) rfl dX1_digest_120 ?_
        exact L6 5 0 s1 A1 (by omega) (by omega) (by omega) hs hA he
      · rw [er_cons (show i < 3 by omega), List.map_cons, List.cons_append, List.foldl_cons] at he
        have hb := cyN_r i (A 0) (gC (A 0))
        refine z_aload_n hX rfl (by first | rfl | exact va_rf_r _) dX1_digest_103 ?_
        refine z_aload_n hX rfl (by first | rfl | exact va_rf_r _) dX1_digest_104 ?_
        refine z_iload_n hX rfl dX1_digest_105 ?_
        refine z_calli (z_runV hX (m_cycles _ _ hD hg1 (by omega)) (cwV 1 hX.ts (lw_V q1782 q1657 q1658 q71 q1659) rfl rfl rfl (by decide +kernel) (zroom (by decide) (by decide))) dX1_digest_106 mM_0 (ci := 1) rfl rfl rfl rfl (by first | exact Nat.le_of_ble_eq_true rfl | simp [va_rf_c, Value.category]) (zhf (by omega) (by omega))) (fun r_106 μ_106 h_106 => ?_)
        obtain ⟨s2, A2, h1, h2, h3, rfl⟩ := h_106; rw [if_pos (by omega), a0] at h3; subst h3
        refine z_i2l hX (by omega) dX1_digest_109 ?_
        refine z_callv (z_runV hX (m_mixes _ _ hD) (cwV 1 hX.ts (lw_V q1775 q1777 qs63 q71 q1778) rfl rfl rfl (by decide +kernel) (zroom (by decide) (by decide))) dX1_digest_110 mM_0 (ci := 1) rfl rfl rfl rfl (by first | exact Nat.le_of_ble_eq_true rfl | simp [va_rf_c, Value.category]) (zhf (by omega) (by omega))) (fun μ_110 h_110 => ?_)
        obtain rfl := h_110
        refine z_iinc hX (lv' := [_, _]) rfl (Nat.le_of_ble_eq_true rfl) (by first | exact zpre_0 | exact zpre_n rfl | exact zpre_1 rfl rfl | exact zpre_1 rfl (va_rf_c _)) rfl dX1_digest_113 ?_
        refine z_goto hX (tgt := 98) dX1_digest_116 rfl ?_
        rw [dgM] at he
        exact ih (i + 1) _ A2 (by omega) (by omega) (by omega) ((hs.tr h1 (ks := kdS) (by intro k hk; simp only [List.mem_cons, List.not_mem_nil, or_false, not_or] at hk ⊢; omega)).up2 (by simp)) (hA.tr h2 (ks := kpA) (by intro k hk; simp only [List.mem_cons, List.not_mem_nil, or_false, not_or] at hk ⊢; omega)) (by rw [zg_s, h1 38 (by decide)]; exact he)
  have L3 : ∀ (k : Nat) (i : Int) (s1 : Nat → Int) (A1 : Nat → Int → Int), 0 ≤ i → i ≤ 8 → 8 < i + k → sag kdS s s1 → sag kpA A A1 → ((er i (8)).map (potR (A 0)) ++ dg4 s A).foldl dgM (s1 38) = dgF s A → zW X (zR 8 0 0) E (mM E ν m0 ad s1 A1) 0 0 Q 66 [some (.ref m0), some (.int (zI i))] [] := by
    intro k
    induction k with
    | zero => intros; exfalso; omega
    | succ k ih =>
      intro i s1 A1 h0 h8 hk hs hA he
      have a0 : A1 0 = A 0 := hA 0 (by decide)
      have hg1 : gV (A1 0) := by rw [a0]; exact hg
      refine z_iload_n hX rfl dX1_digest_66 ?_
      refine z_bipush hX (by decide) dX1_digest_67 ?_
      refine z_icmp_ge hX (by omega) (by omega) dX1_digest_69 (tgt := 87) rfl (fun h_69 => ?_) (fun h_69 => ?_)
      · rw [er_nil (by omega), List.map_nil, List.nil_append] at he
        rw [dg4, List.foldl_cons] at he
        refine z_aload_n hX rfl (by first | rfl | exact va_rf_r _) dX1_digest_87 ?_
        refine z_aload_n hX rfl (by first | rfl | exact va_rf_r _) dX1_digest_88 ?_
        refine z_calli (z_runV hX (m_tight _ _ hD hg1 (by rw [a0]; exact hpr)) (cwV 0 hX.ts (lw_V q1781 q1686 q1687 q71 q1688) rfl rfl rfl (by decide +kernel) (zroom (by decide) (by decide))) dX1_digest_89 mM_0 (ci := 1) rfl rfl rfl rfl (by first | exact Nat.le_of_ble_eq_true rfl | simp [va_rf_c, Value.category]) (zhf (by omega) (by omega))) (fun r_89 μ_89 h_89 => ?_)
        obtain ⟨s2, A2, h1, h2, h3, rfl⟩ := h_89; rw [a0] at h3; subst h3
        refine z_i2l hX (by omega) dX1_digest_92 ?_
        refine z_callv (z_runV hX (m_mixes _ _ hD) (cwV 1 hX.ts (lw_V q1775 q1777 qs63 q71 q1778) rfl rfl rfl (by decide +kernel) (zroom (by decide) (by decide))) dX1_digest_93 mM_0 (ci := 1) rfl rfl rfl rfl (by first | exact Nat.le_of_ble_eq_true rfl | simp [va_rf_c, Value.category]) (zhf (by omega) (by omega))) (fun μ_93 h_93 => ?_)
        obtain rfl := h_93
        refine z_iconst hX dX1_digest_96 ?_
        refine z_istore_n hX (lv' := [_, _]) (Nat.le_of_ble_eq_true rfl) (by first | exact zpre_0 | exact zpre_n rfl | exact zpre_1 rfl rfl | exact zpre_1 rfl (va_rf_c _)) rfl dX1_digest_97 ?_
        rw [dgM] at he
        exact L5 4 0 _ A2 (by omega) (by omega) (by omega) ((hs.tr h1 (ks := kdS) (by intro k hk; simp only [List.mem_cons, List.not_mem_nil, or_false, not_or] at hk ⊢; omega)).up2 (by simp)) (hA.tr h2 (ks := kpA) (by intro k hk; simp only [List.mem_cons, List.not_mem_nil, or_false, not_or] at hk ⊢; omega)) (by rw [zg_s, h1 38 (by decide)]; exact he)
      · rw [er_cons (show i < 8 by omega), List.map_cons, List.cons_append, List.foldl_cons] at he
        refine z_aload_n hX rfl (by first | rfl | exact va_rf_r _) dX1_digest_72 ?_
        refine z_aload_n hX rfl (by first | rfl | exact va_rf_r _) dX1_digest_73 ?_
        refine z_iload_n hX rfl dX1_digest_74 ?_
        refine z_calll (z_runV hX (m_potential _ _ hD hg1 (by omega)) (cwV 1 hX.ts (lw_V q1780 q1672 q1673 q71 q1674) rfl rfl rfl (by decide +kernel) (zroom (by decide) (by decide))) dX1_digest_75 mM_0 (ci := 1) rfl rfl rfl rfl (by first | exact Nat.le_of_ble_eq_true rfl | simp [va_rf_c, Value.category]) (zhf (by omega) (by omega))) (fun r_75 μ_75 h_75 => ?_)
        obtain ⟨s2, A2, h1, h2, h3, rfl⟩ := h_75; rw [if_pos (by omega), a0] at h3; subst h3
        refine z_callv (z_runV hX (m_mixes _ _ hD) (cwV 1 hX.ts (lw_V q1775 q1777 qs63 q71 q1778) rfl rfl rfl (by decide +kernel) (zroom (by decide) (by decide))) dX1_digest_78 mM_0 (ci := 1) rfl rfl rfl rfl (by first | exact Nat.le_of_ble_eq_true rfl | simp [va_rf_c, Value.category]) (zhf (by omega) (by omega))) (fun μ_78 h_78 => ?_)
        obtain rfl := h_78
        refine z_iinc hX (lv' := [_, _]) rfl (Nat.le_of_ble_eq_true rfl) (by first | exact zpre_0 | exact zpre_n rfl | exact zpre_1 rfl rfl | exact zpre_1 rfl (va_rf_c _)) rfl dX1_digest_81 ?_
        refine z_goto hX (tgt := 66) dX1_digest_84 rfl ?_
        rw [dgM] at he
        exact ih (i + 1) _ A2 (by omega) (by omega) (by omega) ((hs.tr h1 (ks := kdS) (by intro k hk; simp only [List.mem_cons, List.not_mem_nil, or_false, not_or] at hk ⊢; omega)).up2 (by simp)) (hA.tr h2 (ks := kpA) (by intro k hk; simp only [List.mem_cons, List.not_mem_nil, or_false, not_or] at hk ⊢; omega)) (by rw [zg_s, h1 38 (by decide)]; exact he)
  have L2 : ∀ (k : Nat) (i : Int) (s1 : Nat → Int) (A1 : Nat → Int → Int), 0 ≤ i → i ≤ 7 * A 0 112 → 7 * A 0 112 < i + k → sag kdS s s1 → sag kpA A A1 → ((er i (7 * A 0 112)).map (A 0) ++ dg3 s A).foldl dgM (s1 38) = dgF s A → zW X (zR 8 0 0) E (mM E ν m0 ad s1 A1) 0 0 Q 33 [some (.ref m0), some (.int (zI i))] [] := by
    intro k
    induction k with
    | zero => intros; exfalso; omega
    | succ k ih =>
      intro i s1 A1 h0 h8 hk hs hA he
      have a0 : A1 0 = A 0 := hA 0 (by decide)
      have a1 : A1 0 112 = A 0 112 := by rw [a0]
      have hg1 : gV (A1 0) := by rw [a0]; exact hg
      refine z_iload_n hX rfl dX1_digest_33 ?_
      refine z_bipush hX (by decide) dX1_digest_34 ?_
      refine z_aload_n hX rfl (by first | rfl | exact va_rf_r _) dX1_digest_36 ?_
      refine zm_get hX 0 (by decide) q1370 dX1_digest_37 rfl rfl ?_
      refine z_bipush hX (by decide) dX1_digest_40 ?_
      refine zm_iaload hX hD 0 (by decide) (by decide) 113 rfl dX1_digest_42 (by omega) ?_
      refine z_imul hX dX1_digest_43 ?_
      refine z_icmp_ge hX (by omega) (by omega) dX1_digest_44 (tgt := 64) rfl (fun h_44 => ?_) (fun h_44 => ?_)
      · rw [er_nil (by omega), List.map_nil, List.nil_append] at he
        refine z_iconst hX dX1_digest_64 ?_
        refine z_istore_n hX (lv' := [_, _]) (Nat.le_of_ble_eq_true rfl) (by first | exact zpre_0 | exact zpre_n rfl | exact zpre_1 rfl rfl | exact zpre_1 rfl (va_rf_c _)) rfl dX1_digest_65 ?_
        exact L3 9 0 s1 A1 (by omega) (by omega) (by omega) hs hA he
      · rw [er_cons (show i < 7 * A 0 112 by omega), List.map_cons, List.cons_append, List.foldl_cons] at he
        have hb := gV_cell hg h0 (show i < 7 * A 0 112 by omega)
        rw [← a0] at hb
        refine z_aload_n hX rfl (by first | rfl | exact va_rf_r _) dX1_digest_47 ?_
        refine z_aload_n hX rfl (by first | rfl | exact va_rf_r _) dX1_digest_48 ?_
        refine zm_get hX 0 (by decide) q1370 dX1_digest_49 rfl rfl ?_
        refine z_iload_n hX rfl dX1_digest_52 ?_
        refine zm_iaload hX hD 0 (by decide) (by decide) 113 rfl dX1_digest_53 (by omega) ?_
        refine z_i2l hX (by omega) dX1_digest_54 ?_
        refine z_callv (z_runV hX (m_mixes _ _ hD) (cwV 1 hX.ts (lw_V q1775 q1777 qs63 q71 q1778) rfl rfl rfl (by decide +kernel) (zroom (by decide) (by decide))) dX1_digest_55 mM_0 (ci := 1) rfl rfl rfl rfl (by first | exact Nat.le_of_ble_eq_true rfl | simp [va_rf_c, Value.category]) (zhf (by omega) (by omega))) (fun μ_55 h_55 => ?_)
        obtain rfl := h_55
        refine z_iinc hX (lv' := [_, _]) rfl (Nat.le_of_ble_eq_true rfl) (by first | exact zpre_0 | exact zpre_n rfl | exact zpre_1 rfl rfl | exact zpre_1 rfl (va_rf_c _)) rfl dX1_digest_58 ?_
        refine z_goto hX (tgt := 33) dX1_digest_61 rfl ?_
        rw [a0]
        rw [dgM] at he
        exact ih (i + 1) _ A1 (by omega) (by omega) (by omega) (hs.up2 (by simp)) hA (by rw [zg_s]; exact he)
  have L1 : ∀ (k : Nat) (i : Int) (s1 : Nat → Int) (A1 : Nat → Int → Int), 0 ≤ i → i ≤ 6 → 6 < i + k → sag kdS s s1 → sag kpA A A1 → ((er i (6)).map (cnF s A) ++ dg2 s A).foldl dgM (s1 38) = dgF s A → zW X (zR 8 0 0) E (mM E ν m0 ad s1 A1) 0 0 Q 9 [some (.ref m0), some (.int (zI i))] [] := by
    intro k
    induction k with
    | zero => intros; exfalso; omega
    | succ k ih =>
      intro i s1 A1 h0 h8 hk hs hA he
      have a0 : A1 0 = A 0 := hA 0 (by decide)
      have hg1 : gV (A1 0) := by rw [a0]; exact hg
      refine z_iload_n hX rfl dX1_digest_9 ?_
      refine z_bipush hX (by decide) dX1_digest_10 ?_
      refine z_icmp_ge hX (by omega) (by omega) dX1_digest_12 (tgt := 31) rfl (fun h_12 => ?_) (fun h_12 => ?_)
      · rw [er_nil (by omega), List.map_nil, List.nil_append] at he
        refine z_iconst hX dX1_digest_31 ?_
        refine z_istore_n hX (lv' := [_, _]) (Nat.le_of_ble_eq_true rfl) (by first | exact zpre_0 | exact zpre_n rfl | exact zpre_1 rfl rfl | exact zpre_1 rfl (va_rf_c _)) rfl dX1_digest_32 ?_
        exact L2 (7 * A 0 112 + 1).toNat 0 s1 A1 (by omega) (by omega) (by omega) hs hA he
      · rw [er_cons (show i < 6 by omega), List.map_cons, List.cons_append, List.foldl_cons] at he
        have hb := cnF_r hV i
        refine z_aload_n hX rfl (by first | rfl | exact va_rf_r _) dX1_digest_15 ?_
        refine z_aload_n hX rfl (by first | rfl | exact va_rf_r _) dX1_digest_16 ?_
        refine z_iload_n hX rfl dX1_digest_17 ?_
        refine z_calli (z_runV hX (m_count _ _ hD (mV_sag hV hs hA) (by omega)) (cwV 1 hX.ts (lw_V q1774 q1758 q1759 q71 q1760) rfl rfl rfl (by decide +kernel) (zroom (by decide) (by decide))) dX1_digest_18 mM_0 (ci := 1) rfl rfl rfl rfl (by first | exact Nat.le_of_ble_eq_true rfl | simp [va_rf_c, Value.category]) (zhf (by omega) (by omega))) (fun r_18 μ_18 h_18 => ?_)
        obtain ⟨rfl, rfl⟩ := h_18; rw [cnF_sag hs hA]
        refine z_i2l hX (by omega) dX1_digest_21 ?_
        refine z_callv (z_runV hX (m_mixes _ _ hD) (cwV 1 hX.ts (lw_V q1775 q1777 qs63 q71 q1778) rfl rfl rfl (by decide +kernel) (zroom (by decide) (by decide))) dX1_digest_22 mM_0 (ci := 1) rfl rfl rfl rfl (by first | exact Nat.le_of_ble_eq_true rfl | simp [va_rf_c, Value.category]) (zhf (by omega) (by omega))) (fun μ_22 h_22 => ?_)
        obtain rfl := h_22
        refine z_iinc hX (lv' := [_, _]) rfl (Nat.le_of_ble_eq_true rfl) (by first | exact zpre_0 | exact zpre_n rfl | exact zpre_1 rfl rfl | exact zpre_1 rfl (va_rf_c _)) rfl dX1_digest_25 ?_
        refine z_goto hX (tgt := 9) dX1_digest_28 rfl ?_
        rw [dgM] at he
        exact ih (i + 1) _ A1 (by omega) (by omega) (by omega) (hs.up2 (by simp)) hA (by rw [zg_s]; exact he)
  refine z_aload_n hX rfl (by first | rfl | exact va_rf_r _) dX1_digest_0 ?_
  refine z_ldc2_w hX (z := 83) q1773 (by decide) dX1_digest_1 ?_
  refine zm_putl hX hD 38 (by decide) q1408 dX1_digest_4 rfl mset_38 ?_
  refine z_iconst hX dX1_digest_7 ?_
  refine z_istore_n hX (lv' := [_, _]) (Nat.le_of_ble_eq_true rfl) (by first | exact zpre_0 | exact zpre_n rfl | exact zpre_1 rfl rfl | exact zpre_1 rfl (va_rf_c _)) rfl dX1_digest_8 ?_
  exact L1 7 0 _ A (by omega) (by omega) (by omega) (sag.up (by simp)) sag.rf (by rw [zg_s]; rfl)
