/-! THE REFERENCE: its digest -/
set_option maxRecDepth 100000
def dgT (a : AS) (H : Int64) : Int64 := dg9 a.2.2 (hi (hi64 H (dbits (evn (sI a.1)))) (nI a.2.2.length))
def dgU (a : AS) (H : Int64) : Int64 := dgT a (dg6 a.1 a.2.2 (hi H (posI (bst a.1 (nI 7)))))
theorem oDig_u (a : AS) : oDig a = dgU a (dg4 a.1 (dg3 a.1 (dg2 a.1 (dg1 a.1 a.2.1.length)))) := rfl
section M10
variable {G : GT} {h : PH} {m : Nat} {A : Nat → Nat} {f : Nat → Int32} {hs : Int64} {g : Nat → Nat → Int32} {a : AS} {c k : Nat}
theorem c_X3_hashes (hM : MM G h m A f hs g a) (x : Int64) : CT G yX3_hashes cX3_hashes 3 none (rmL 1 0 0) [.ref m, .long x] h (fun v h' => v = none ∧ MM G h' m A f (hi64 hs x) g a ∧ Mto h h' m) noX := by
  refine CT_of [some (.ref m), some (.long x), none] (by decide +kernel) rfl (Nat.le_of_ble_eq_true rfl) (fun X hC hF hE => ?_)
  refine go_aload_n hC dX3_hashes_0 rfl ?_
  refine go_ldc2 hC dX3_hashes_1 q2058 ?_
  refine go_aload_n hC dX3_hashes_4 rfl ?_
  refine go_get hC kX3 hM.1.1 15 q1767 dX3_hashes_5 rfl (by decide) (Or.inl rfl) ?_
  refine go_lmul hC dX3_hashes_8 ?_
  refine go_lload_n hC dX3_hashes_9 rfl ?_
  refine go_ladd hC dX3_hashes_10 ?_
  refine go_put hC kX3 hM.1.1 15 q1767 dX3_hashes_11 (by decide) (Nat.le_of_ble_eq_true rfl) (Or.inl rfl) rfl rfl rfl ?_
  refine go_vret hC hF dX3_hashes_14 rfl ?_
  exact ⟨rfl, hM.u (hM.1.uo rfl) rfl rfl, Mto.rf.st hM.1.1⟩
theorem c_X3_digest (hQ : MQr G h m a k) (hw : WFA c a) (hc : c ≤ 64) : CT G yX3_digest cX3_digest 3 (some .long) (rmL 12 0 0) [.ref m] h (fun z h' => z = some (.long (oDig a)) ∧ MQr G h' m a 0 ∧ Mto h h' m) noX := by
  obtain ⟨A, f, hs, g, hM, -⟩ := hQ
  refine CT_of [some (.ref m), none, none] (by decide +kernel) rfl (Nat.le_of_ble_eq_true rfl) (fun X hC hF hE => ?_)
  have hn := hw.1.n
  have htl := hw.2.2.2.1
  have L9 : ∀ (i : Nat) (h1 : PH) (H : Int64) (f1 : Nat → Int32) (g1 : Nat → Nat → Int32) (z2 : Option Value), i ≤ a.2.2.length → MM G h1 m A f1 H g1 a → f1 0 = nI 0 → Mto h h1 m → (a.2.2.drop i).foldl (fun h c => hi h (nI c)) H = oDig a → Go X G h1 0 0 240 [some (.ref m), some (.int (nI i)), z2] [] := by
    refine lpC (fun i _ _ => a.2.2.length - i) (fun i h1 H ih f1 g1 z2 hi' hM1 k0 ht1 he => ?_)
    refine go_iload_n hC dX3_digest_240 rfl ?_
    refine go_aload_n hC dX3_digest_241 rfl ?_
    refine go_get hC kX3 hM1.1.1 6 q1758 dX3_digest_242 rfl (by decide) (Or.inl rfl) ?_
    refine go_N_ge hC 265 dX3_digest_245 (by decide) rfl hM1.2.2.2.2.1 (by omega) (by omega) (fun c245 => ?_) (fun c245 => ?_)
    · rw [drop_end (by omega)] at he
      refine go_aload_n hC dX3_digest_265 rfl ?_
      refine go_get hC kX3 hM1.1.1 15 q1767 dX3_digest_266 rfl (by decide) (Or.inl rfl) ?_
      refine go_lret hC hF dX3_digest_269 rfl ?_
      exact ⟨by rw [← he]; rfl, hM1.q k0, ht1⟩
    · obtain ⟨x, hx, hdr⟩ := get_of c245
      rw [hdr, List.foldl_cons] at he
      refine go_aload_n hC dX3_digest_248 rfl ?_
      refine go_aload_n hC dX3_digest_249 rfl ?_
      refine go_get hC kX3 hM1.1.1 5 q1757 dX3_digest_250 rfl (by decide) (Or.inl rfl) ?_
      refine go_iload_n hC dX3_digest_253 rfl ?_
      refine go_iald hC i hM1.1.2.2.2.2.1 dX3_digest_254 (by first | rfl | (simp only [nI_add, pk_mul, nI_1, Int32.add_zero]; done) | (simp only [nI_add, pk_mul, nI_1, Int32.add_zero]; exact congrArg nI (by omega))) (by omega) (by omega) ?_
      rw [hM1.2.2.2.2.2 i x hx]
      refine go_i2l hC dX3_digest_255 ?_
      refine go_callV0 hC (c_X3_hashes hM1 (nI x).toInt64) (lw_V q2054 q2056 qs70 q83 q2057) hM1.1.1 rfl dX3_digest_256 1 rfl (by decide +kernel) rfl ⟨Nat.le_of_ble_eq_true rfl, Nat.le_of_ble_eq_true rfl⟩ (Nat.le_of_ble_eq_true rfl) ⟨rfl, rfl⟩ ?_
      rintro _ h2 ⟨rfl, hM2, ht2⟩
      refine go_iinc hC (v := nI (i + 1)) dX3_digest_259 rfl (nI_1 _) (by decide) ?_
      refine go_goto hC 240 dX3_digest_262 (by decide) ?_
      exact ih (i + 1) h2 _ (by omega) f1 g1 z2 (by omega) hM2 k0 (ht1.tr ht2) he
  have L7 : ∀ (h1 : PH) (H : Int64) (f1 : Nat → Int32) (g1 : Nat → Nat → Int32) (z1 z2 : Option Value), MM G h1 m A f1 H g1 a → f1 0 = nI 0 → Mto h h1 m → dgT a H = oDig a → Go X G h1 0 0 218 [some (.ref m), z1, z2] [] := by
    intro h1 H f1 g1 z1 z2 hM1 k0 ht1 he
    refine go_aload_n hC dX3_digest_218 rfl ?_
    refine go_aload_n hC dX3_digest_219 rfl ?_
    refine go_callV0 hC (c_X3_even hM1.1 hM1.r hw.1) (lw_V q2045 q2047 qs69 q83 q2048) hM1.1.1 rfl dX3_digest_220 0 rfl (by decide +kernel) rfl ⟨Nat.le_of_ble_eq_true rfl, Nat.le_of_ble_eq_true rfl⟩ (Nat.le_of_ble_eq_true rfl) ⟨rfl, rfl⟩ ?_
    rintro _ _ ⟨rfl, rfl⟩
    refine go_callS0 hC (c_J29_bits (evn (sI a.1))) (lw_S q2059 q1503 q111 q1504) dX3_digest_223 1 rfl (by decide +kernel) rfl ⟨Nat.le_of_ble_eq_true rfl, Nat.le_of_ble_eq_true rfl⟩ (Nat.le_of_ble_eq_true rfl) ⟨rfl, rfl⟩ ?_
    rintro _ _ ⟨rfl, rfl⟩
    refine go_callV0 hC (c_X3_hashes hM1 (dbits (evn (sI a.1)))) (lw_V q2054 q2056 qs70 q83 q2057) hM1.1.1 rfl dX3_digest_226 1 rfl (by decide +kernel) rfl ⟨Nat.le_of_ble_eq_true rfl, Nat.le_of_ble_eq_true rfl⟩ (Nat.le_of_ble_eq_true rfl) ⟨rfl, rfl⟩ ?_
    rintro _ h2 ⟨rfl, hM2, ht2⟩
    refine go_aload_n hC dX3_digest_229 rfl ?_
    refine go_aload_n hC dX3_digest_230 rfl ?_
    refine go_get hC kX3 hM2.1.1 6 q1758 dX3_digest_231 rfl (by decide) (Or.inl rfl) ?_
    rw [hM2.2.2.2.2.1]
    refine go_i2l hC dX3_digest_234 ?_
    refine go_callV0 hC (c_X3_hashes hM2 (nI a.2.2.length).toInt64) (lw_V q2054 q2056 qs70 q83 q2057) hM2.1.1 rfl dX3_digest_235 1 rfl (by decide +kernel) rfl ⟨Nat.le_of_ble_eq_true rfl, Nat.le_of_ble_eq_true rfl⟩ (Nat.le_of_ble_eq_true rfl) ⟨rfl, rfl⟩ ?_
    rintro _ h3 ⟨rfl, hM3, ht3⟩
    refine go_iconst hC (0) dX3_digest_238 (by decide) ?_
    refine go_istore_n hC dX3_digest_239 (by decide) ?_
    exact L9 0 h3 _ f1 g1 _ (Nat.zero_le _) hM3 k0 ((ht1.tr ht2).tr ht3) he
  have L6 : ∀ (i : Nat) (h1 : PH) (H : Int64) (f1 : Nat → Int32) (g1 : Nat → Nat → Int32) (z2 : Option Value), i ≤ 12 → MM G h1 m A f1 H g1 a → f1 0 = nI 0 → Mto h h1 m → dgT a ((List.range' i (12 - i)).foldl (fun h k => hi h (pkd a.1 a.2.2 (nI (k / 4)) (k % 4))) H) = oDig a → Go X G h1 0 0 191 [some (.ref m), some (.int (nI i)), z2] [] := by
    refine lpC (fun i _ _ => 12 - i) (fun i h1 H ih f1 g1 z2 hi' hM1 k0 ht1 he => ?_)
    refine go_iload_n hC dX3_digest_191 rfl ?_
    refine go_bipush hC (nI 12) dX3_digest_192 (by decide) ?_
    refine go_N_ge hC 218 dX3_digest_194 (by decide) rfl rfl (by omega) (by omega) (fun c194 => ?_) (fun c194 => ?_)
    · rw [rg_e c194] at he
      exact L7 h1 H f1 g1 _ _ hM1 k0 ht1 he
    · rw [rg_c c194, List.foldl_cons] at he
      have hm : i % 4 < 4 := Nat.mod_lt _ (by omega)
      refine go_aload_n hC dX3_digest_197 rfl ?_
      refine go_aload_n hC dX3_digest_198 rfl ?_
      refine go_iload_n hC dX3_digest_199 rfl ?_
      refine go_iconst hC (nI 4) dX3_digest_200 (by decide) ?_
      refine go_idiv hC dX3_digest_201 (by decide) ?_
      rw [pk_div (a := i) (d := 4) (by omega) (by omega) (by omega)]
      refine go_iload_n hC dX3_digest_202 rfl ?_
      refine go_iconst hC (nI 4) dX3_digest_203 (by decide) ?_
      refine go_irem hC dX3_digest_204 (by decide) ?_
      rw [pk_rem (a := i) (d := 4) (by omega) (by omega) (by omega)]
      refine go_callV0 hC (c_X3_picked hM1 hw hc (i / 4) (i % 4) (by omega)) (lw_V q2037 q2039 qs68 q83 q2040) hM1.1.1 rfl dX3_digest_205 2 rfl (by decide +kernel) rfl ⟨Nat.le_of_ble_eq_true rfl, Nat.le_of_ble_eq_true rfl⟩ (Nat.le_of_ble_eq_true rfl) ⟨rfl, rfl⟩ ?_
      rintro _ h2 ⟨rfl, ⟨f2, g2, hM2, e0⟩, ht2⟩
      refine go_i2l hC dX3_digest_208 ?_
      refine go_callV0 hC (c_X3_hashes hM2 (pkd a.1 a.2.2 (nI (i / 4)) (i % 4)).toInt64) (lw_V q2054 q2056 qs70 q83 q2057) hM2.1.1 rfl dX3_digest_209 1 rfl (by decide +kernel) rfl ⟨Nat.le_of_ble_eq_true rfl, Nat.le_of_ble_eq_true rfl⟩ (Nat.le_of_ble_eq_true rfl) ⟨rfl, rfl⟩ ?_
      rintro _ h3 ⟨rfl, hM3, ht3⟩
      refine go_iinc hC (v := nI (i + 1)) dX3_digest_212 rfl (nI_1 _) (by decide) ?_
      refine go_goto hC 191 dX3_digest_215 (by decide) ?_
      exact ih (i + 1) h3 _ (by omega) f2 g2 z2 (by omega) hM3 (e0.trans k0) ((ht1.tr ht2).tr ht3) he
  have L5 : ∀ (h1 : PH) (H : Int64) (f1 : Nat → Int32) (g1 : Nat → Nat → Int32) (z1 z2 : Option Value), MM G h1 m A f1 H g1 a → f1 0 = nI 0 → Mto h h1 m → dgU a H = oDig a → Go X G h1 0 0 178 [some (.ref m), z1, z2] [] := by
    intro h1 H f1 g1 z1 z2 hM1 k0 ht1 he
    refine go_aload_n hC dX3_digest_178 rfl ?_
    refine go_aload_n hC dX3_digest_179 rfl ?_
    refine go_bipush hC (nI 7) dX3_digest_180 (by decide) ?_
    refine go_callV0 hC (c_X3_drawerFor hM1.1 hM1.r hw.1 (nI 7)) (lw_V q2029 q2031 qs67 q83 q2032) hM1.1.1 rfl dX3_digest_182 1 rfl (by decide +kernel) rfl ⟨Nat.le_of_ble_eq_true rfl, Nat.le_of_ble_eq_true rfl⟩ (Nat.le_of_ble_eq_true rfl) ⟨rfl, rfl⟩ ?_
    rintro _ _ ⟨rfl, rfl⟩
    refine go_i2l hC dX3_digest_185 ?_
    refine go_callV0 hC (c_X3_hashes hM1 (posI (bst a.1 (nI 7))).toInt64) (lw_V q2054 q2056 qs70 q83 q2057) hM1.1.1 rfl dX3_digest_186 1 rfl (by decide +kernel) rfl ⟨Nat.le_of_ble_eq_true rfl, Nat.le_of_ble_eq_true rfl⟩ (Nat.le_of_ble_eq_true rfl) ⟨rfl, rfl⟩ ?_
    rintro _ h2 ⟨rfl, hM2, ht2⟩
    refine go_iconst hC (0) dX3_digest_189 (by decide) ?_
    refine go_istore_n hC dX3_digest_190 (by decide) ?_
    exact L6 0 h2 _ f1 g1 _ (Nat.zero_le _) hM2 k0 (ht1.tr ht2) he
  have L4 : ∀ (i : Nat) (h1 : PH) (H : Int64) (f1 : Nat → Int32) (g1 : Nat → Nat → Int32) (z2 : Option Value), i ≤ (sI a.1).length → MM G h1 m A f1 H g1 a → f1 0 = nI 0 → Mto h h1 m → dgU a (((sI a.1).drop i).foldl (dgi a.1) H) = oDig a → Go X G h1 0 0 122 [some (.ref m), some (.int (nI i)), z2] [] := by
    refine lpC (fun i _ _ => (sI a.1).length - i) (fun i h1 H ih f1 g1 z2 hi' hM1 k0 ht1 he => ?_)
    refine go_iload_n hC dX3_digest_122 rfl ?_
    refine go_aload_n hC dX3_digest_123 rfl ?_
    refine go_get hC kX3 hM1.1.1 1 q1753 dX3_digest_124 rfl (by decide) (Or.inl rfl) ?_
    refine go_bipush hC (nI 9) dX3_digest_127 (by decide) ?_
    refine go_iald hC 9 hM1.1.2.1 dX3_digest_129 (by first | rfl | (simp only [nI_add, pk_mul, nI_1, Int32.add_zero]; done) | (simp only [nI_add, pk_mul, nI_1, Int32.add_zero]; exact congrArg nI (by omega))) (by omega) (by omega) ?_
    refine go_N_ge hC 178 dX3_digest_130 (by decide) rfl hM1.r.2.2.2.2.1 (by omega) (by omega) (fun c130 => ?_) (fun c130 => ?_)
    · rw [drop_end (by omega)] at he
      exact L5 h1 H f1 g1 _ _ hM1 k0 ht1 he
    · obtain ⟨y, hy, hdr⟩ := get_of c130
      rw [hdr, List.foldl_cons] at he
      obtain ⟨e0, e1, e2⟩ := hM1.r.2.2.2.2.2.2 i y hy
      refine go_iconst hC (0) dX3_digest_133 (by decide) ?_
      refine go_istore_n hC dX3_digest_134 (by decide) ?_
      refine go_iload_n hC dX3_digest_135 rfl ?_
      refine go_iconst hC (nI 3) dX3_digest_136 (by decide) ?_
      refine go_N_ge hC (a := 0) 157 dX3_digest_137 (by decide) rfl rfl (by omega) (by omega) (fun z => absurd z (fun z => absurd (show 3 ≤ 0 from z) (by decide))) (fun c137 => ?_)
      refine go_aload_n hC dX3_digest_140 rfl ?_
      refine go_aload_n hC dX3_digest_141 rfl ?_
      refine go_iload_n hC dX3_digest_142 rfl ?_
      refine go_iload_n hC dX3_digest_143 rfl ?_
      refine go_callV0 hC (c_X3_of hM1.1 i 0 (by omega) (by omega)) (lw_V q1823 q1825 qs35 q83 q1826) hM1.1.1 rfl dX3_digest_144 2 rfl (by decide +kernel) rfl ⟨Nat.le_of_ble_eq_true rfl, Nat.le_of_ble_eq_true rfl⟩ (Nat.le_of_ble_eq_true rfl) ⟨rfl, rfl⟩ ?_
      rintro _ _ ⟨rfl, rfl⟩
      rw [show g1 1 (22 + 3 * i + 0) = nI y.1 from e0]
      refine go_i2l hC dX3_digest_147 ?_
      refine go_callV0 hC (c_X3_hashes hM1 (nI y.1).toInt64) (lw_V q2054 q2056 qs70 q83 q2057) hM1.1.1 rfl dX3_digest_148 1 rfl (by decide +kernel) rfl ⟨Nat.le_of_ble_eq_true rfl, Nat.le_of_ble_eq_true rfl⟩ (Nat.le_of_ble_eq_true rfl) ⟨rfl, rfl⟩ ?_
      rintro _ h2 ⟨rfl, hM2, ht2⟩
      refine go_iinc hC (v := nI (0 + 1)) dX3_digest_151 rfl (nI_1 _) (by decide) ?_
      refine go_goto hC 135 dX3_digest_154 (by decide) ?_
      refine go_iload_n hC dX3_digest_135 rfl ?_
      refine go_iconst hC (nI 3) dX3_digest_136 (by decide) ?_
      refine go_N_ge hC 157 dX3_digest_137 (by decide) rfl rfl (by omega) (by omega) (fun z => absurd z (fun z => absurd (show 3 ≤ 1 from z) (by decide))) (fun c137 => ?_)
      refine go_aload_n hC dX3_digest_140 rfl ?_
      refine go_aload_n hC dX3_digest_141 rfl ?_
      refine go_iload_n hC dX3_digest_142 rfl ?_
      refine go_iload_n hC dX3_digest_143 rfl ?_
      refine go_callV0 hC (c_X3_of hM2.1 i 1 (by omega) (by omega)) (lw_V q1823 q1825 qs35 q83 q1826) hM2.1.1 rfl dX3_digest_144 2 rfl (by decide +kernel) rfl ⟨Nat.le_of_ble_eq_true rfl, Nat.le_of_ble_eq_true rfl⟩ (Nat.le_of_ble_eq_true rfl) ⟨rfl, rfl⟩ ?_
      rintro _ _ ⟨rfl, rfl⟩
      rw [show g1 1 (22 + 3 * i + 1) = y.2.1 from e1]
      refine go_i2l hC dX3_digest_147 ?_
      refine go_callV0 hC (c_X3_hashes hM2 y.2.1.toInt64) (lw_V q2054 q2056 qs70 q83 q2057) hM2.1.1 rfl dX3_digest_148 1 rfl (by decide +kernel) rfl ⟨Nat.le_of_ble_eq_true rfl, Nat.le_of_ble_eq_true rfl⟩ (Nat.le_of_ble_eq_true rfl) ⟨rfl, rfl⟩ ?_
      rintro _ h3 ⟨rfl, hM3, ht3⟩
      refine go_iinc hC (v := nI (1 + 1)) dX3_digest_151 rfl (nI_1 _) (by decide) ?_
      refine go_goto hC 135 dX3_digest_154 (by decide) ?_
      refine go_iload_n hC dX3_digest_135 rfl ?_
      refine go_iconst hC (nI 3) dX3_digest_136 (by decide) ?_
      refine go_N_ge hC 157 dX3_digest_137 (by decide) rfl rfl (by omega) (by omega) (fun z => absurd z (fun z => absurd (show 3 ≤ 2 from z) (by decide))) (fun c137 => ?_)
      refine go_aload_n hC dX3_digest_140 rfl ?_
      refine go_aload_n hC dX3_digest_141 rfl ?_
      refine go_iload_n hC dX3_digest_142 rfl ?_
      refine go_iload_n hC dX3_digest_143 rfl ?_
      refine go_callV0 hC (c_X3_of hM3.1 i 2 (by omega) (by omega)) (lw_V q1823 q1825 qs35 q83 q1826) hM3.1.1 rfl dX3_digest_144 2 rfl (by decide +kernel) rfl ⟨Nat.le_of_ble_eq_true rfl, Nat.le_of_ble_eq_true rfl⟩ (Nat.le_of_ble_eq_true rfl) ⟨rfl, rfl⟩ ?_
      rintro _ _ ⟨rfl, rfl⟩
      rw [show g1 1 (22 + 3 * i + 2) = nI y.2.2 from e2]
      refine go_i2l hC dX3_digest_147 ?_
      refine go_callV0 hC (c_X3_hashes hM3 (nI y.2.2).toInt64) (lw_V q2054 q2056 qs70 q83 q2057) hM3.1.1 rfl dX3_digest_148 1 rfl (by decide +kernel) rfl ⟨Nat.le_of_ble_eq_true rfl, Nat.le_of_ble_eq_true rfl⟩ (Nat.le_of_ble_eq_true rfl) ⟨rfl, rfl⟩ ?_
      rintro _ h4 ⟨rfl, hM4, ht4⟩
      refine go_iinc hC (v := nI (2 + 1)) dX3_digest_151 rfl (nI_1 _) (by decide) ?_
      refine go_goto hC 135 dX3_digest_154 (by decide) ?_
      refine go_iload_n hC dX3_digest_135 rfl ?_
      refine go_iconst hC (nI 3) dX3_digest_136 (by decide) ?_
      refine go_N_ge hC 157 dX3_digest_137 (by decide) rfl rfl (by omega) (by omega) (fun c137 => ?_) (fun z => absurd z (by decide))
      refine go_aload_n hC dX3_digest_157 rfl ?_
      refine go_aload_n hC dX3_digest_158 rfl ?_
      refine go_aload_n hC dX3_digest_159 rfl ?_
      refine go_iload_n hC dX3_digest_160 rfl ?_
      refine go_iconst hC (0) dX3_digest_161 (by decide) ?_
      refine go_callV0 hC (c_X3_of hM4.1 i 0 (by omega) (by omega)) (lw_V q1823 q1825 qs35 q83 q1826) hM4.1.1 rfl dX3_digest_162 2 rfl (by decide +kernel) rfl ⟨Nat.le_of_ble_eq_true rfl, Nat.le_of_ble_eq_true rfl⟩ (Nat.le_of_ble_eq_true rfl) ⟨rfl, rfl⟩ ?_
      rintro _ _ ⟨rfl, rfl⟩
      rw [show g1 1 (22 + 3 * i + 0) = nI y.1 from e0]
      refine go_callV0 hC (c_X3_reason hM4.1 hM4.r hw.1 (nI y.1)) (lw_V q1858 q1860 qs41 q83 q1861) hM4.1.1 rfl dX3_digest_165 1 rfl (by decide +kernel) rfl ⟨Nat.le_of_ble_eq_true rfl, Nat.le_of_ble_eq_true rfl⟩ (Nat.le_of_ble_eq_true rfl) ⟨rfl, rfl⟩ ?_
      rintro _ _ ⟨rfl, rfl⟩
      refine go_i2l hC dX3_digest_168 ?_
      refine go_callV0 hC (c_X3_hashes hM4 (reason a.1 (nI y.1)).toInt64) (lw_V q2054 q2056 qs70 q83 q2057) hM4.1.1 rfl dX3_digest_169 1 rfl (by decide +kernel) rfl ⟨Nat.le_of_ble_eq_true rfl, Nat.le_of_ble_eq_true rfl⟩ (Nat.le_of_ble_eq_true rfl) ⟨rfl, rfl⟩ ?_
      rintro _ h5 ⟨rfl, hM5, ht5⟩
      refine go_iinc hC (v := nI (i + 1)) dX3_digest_172 rfl (nI_1 _) (by decide) ?_
      refine go_goto hC 122 dX3_digest_175 (by decide) ?_
      exact ih (i + 1) h5 _ (by omega) f1 g1 _ (by omega) hM5 k0 ((((ht1.tr ht2).tr ht3).tr ht4).tr ht5) he
  have L3 : ∀ (d : Nat) (h1 : PH) (H : Int64) (f1 : Nat → Int32) (g1 : Nat → Nat → Int32) (z2 : Option Value), d ≤ 12 → MM G h1 m A f1 H g1 a → f1 0 = nI 0 → Mto h h1 m → dgU a (dg4 a.1 ((List.range' d (12 - d)).foldl (dgd a.1) H)) = oDig a → Go X G h1 0 0 62 [some (.ref m), some (.int (nI d)), z2] [] := by
    refine lpC (fun i _ _ => 12 - i) (fun d h1 H ih f1 g1 z2 hi' hM1 k0 ht1 he => ?_)
    refine go_iload_n hC dX3_digest_62 rfl ?_
    refine go_bipush hC (nI 12) dX3_digest_63 (by decide) ?_
    refine go_N_ge hC 120 dX3_digest_65 (by decide) rfl rfl (by omega) (by omega) (fun c65 => ?_) (fun c65 => ?_)
    · rw [rg_e c65] at he
      refine go_iconst hC (0) dX3_digest_120 (by decide) ?_
      refine go_istore_n hC dX3_digest_121 (by decide) ?_
      exact L4 0 h1 H f1 g1 _ (Nat.zero_le _) hM1 k0 ht1 he
    · rw [rg_c c65, List.foldl_cons] at he
      have inner : ∀ (w : Nat) (h2 : PH) (K : Int64), w ≤ 6 → MM G h2 m A f1 K g1 a → Mto h h2 m → (List.range' w (6 - w)).foldl (fun h w => hi h (tel a.1 d w)) K = (List.range' 0 6).foldl (fun h w => hi h (tel a.1 d w)) H → Go X G h2 0 0 70 [some (.ref m), some (.int (nI d)), some (.int (nI w))] [] := by
        refine lpC (fun w _ _ => 6 - w) (fun w h2 K ihw hw6 hM2 ht2 hk => ?_)
        refine go_iload_n hC dX3_digest_70 rfl ?_
        refine go_bipush hC (nI 6) dX3_digest_71 (by decide) ?_
        refine go_N_ge hC 93 dX3_digest_73 (by decide) rfl rfl (by omega) (by omega) (fun c73 => ?_) (fun c73 => ?_)
        · rw [rg_e c73] at hk
          have hk' : K = (List.range' 0 6).foldl (fun h w => hi h (tel a.1 d w)) H := hk
          refine go_aload_n hC dX3_digest_93 rfl ?_
          refine go_aload_n hC dX3_digest_94 rfl ?_
          refine go_iload_n hC dX3_digest_95 rfl ?_
          refine go_callV0 hC (c_X3_wayTo hM2.1 hM2.r hw.1 d c65) (lw_V q1862 q1864 qs42 q83 q1865) hM2.1.1 rfl dX3_digest_96 1 rfl (by decide +kernel) rfl ⟨Nat.le_of_ble_eq_true rfl, Nat.le_of_ble_eq_true rfl⟩ (Nat.le_of_ble_eq_true rfl) ⟨rfl, rfl⟩ ?_
          rintro _ _ ⟨rfl, rfl⟩
          refine go_i2l hC dX3_digest_99 ?_
          refine go_callV0 hC (c_X3_hashes hM2 (way a.1 d).toInt64) (lw_V q2054 q2056 qs70 q83 q2057) hM2.1.1 rfl dX3_digest_100 1 rfl (by decide +kernel) rfl ⟨Nat.le_of_ble_eq_true rfl, Nat.le_of_ble_eq_true rfl⟩ (Nat.le_of_ble_eq_true rfl) ⟨rfl, rfl⟩ ?_
          rintro _ h3 ⟨rfl, hM3, ht3⟩
          refine go_aload_n hC dX3_digest_103 rfl ?_
          refine go_aload_n hC dX3_digest_104 rfl ?_
          refine go_iload_n hC dX3_digest_105 rfl ?_
          refine go_iconst hC (nI 5) dX3_digest_106 (by decide) ?_
          refine go_callV0 hC (c_X3_greatestWith hM3.1 hM3.r hw.1 d c65 (nI 5)) (lw_V q2021 q2023 qs66 q83 q2024) hM3.1.1 rfl dX3_digest_107 2 rfl (by decide +kernel) rfl ⟨Nat.le_of_ble_eq_true rfl, Nat.le_of_ble_eq_true rfl⟩ (Nat.le_of_ble_eq_true rfl) ⟨rfl, rfl⟩ ?_
          rintro _ _ ⟨rfl, rfl⟩
          refine go_i2l hC dX3_digest_110 ?_
          refine go_callV0 hC (c_X3_hashes hM3 (gw (sI a.1) d (nI 5)).toInt64) (lw_V q2054 q2056 qs70 q83 q2057) hM3.1.1 rfl dX3_digest_111 1 rfl (by decide +kernel) rfl ⟨Nat.le_of_ble_eq_true rfl, Nat.le_of_ble_eq_true rfl⟩ (Nat.le_of_ble_eq_true rfl) ⟨rfl, rfl⟩ ?_
          rintro _ h4 ⟨rfl, hM4, ht4⟩
          refine go_iinc hC (v := nI (d + 1)) dX3_digest_114 rfl (nI_1 _) (by decide) ?_
          refine go_goto hC 62 dX3_digest_117 (by decide) ?_
          exact ih (d + 1) h4 _ (by omega) f1 g1 _ (by omega) hM4 k0 ((ht2.tr ht3).tr ht4) (by rw [hk']; exact he)
        · rw [rg_c c73, List.foldl_cons] at hk
          refine go_aload_n hC dX3_digest_76 rfl ?_
          refine go_aload_n hC dX3_digest_77 rfl ?_
          refine go_iload_n hC dX3_digest_78 rfl ?_
          refine go_iload_n hC dX3_digest_79 rfl ?_
          refine go_callV0 hC (c_X3_tellsDrawer hM2.1 hM2.r hw.1 d w c65 (by omega)) (lw_V q1973 q1975 qs60 q83 q1976) hM2.1.1 rfl dX3_digest_80 2 rfl (by decide +kernel) rfl ⟨Nat.le_of_ble_eq_true rfl, Nat.le_of_ble_eq_true rfl⟩ (Nat.le_of_ble_eq_true rfl) ⟨rfl, rfl⟩ ?_
          rintro _ _ ⟨rfl, rfl⟩
          refine go_i2l hC dX3_digest_83 ?_
          refine go_callV0 hC (c_X3_hashes hM2 (tel a.1 d w).toInt64) (lw_V q2054 q2056 qs70 q83 q2057) hM2.1.1 rfl dX3_digest_84 1 rfl (by decide +kernel) rfl ⟨Nat.le_of_ble_eq_true rfl, Nat.le_of_ble_eq_true rfl⟩ (Nat.le_of_ble_eq_true rfl) ⟨rfl, rfl⟩ ?_
          rintro _ h3 ⟨rfl, hM3, ht3⟩
          refine go_iinc hC (v := nI (w + 1)) dX3_digest_87 rfl (nI_1 _) (by decide) ?_
          refine go_goto hC 70 dX3_digest_90 (by decide) ?_
          exact ihw (w + 1) h3 _ (by omega) (by omega) hM3 (ht2.tr ht3) hk
      refine go_iconst hC (0) dX3_digest_68 (by decide) ?_
      refine go_istore_n hC dX3_digest_69 (by decide) ?_
      exact inner 0 h1 H (Nat.zero_le _) hM1 ht1 rfl
  have L2 : ∀ (i : Nat) (h1 : PH) (H : Int64) (f1 : Nat → Int32) (g1 : Nat → Nat → Int32), i ≤ 3 → MM G h1 m A f1 H g1 a → f1 0 = nI 0 → Mto h h1 m → dgU a (dg4 a.1 (dg3 a.1 ((List.range' i (3 - i)).foldl (fun h w => hi h (sN a.1 w)) H))) = oDig a → Go X G h1 0 0 38 [some (.ref m), some (.int (nI i)), none] [] := by
    refine lpC (fun i _ _ => 3 - i) (fun i h1 H ih f1 g1 hi' hM1 k0 ht1 he => ?_)
    refine go_iload_n hC dX3_digest_38 rfl ?_
    refine go_iconst hC (nI 3) dX3_digest_39 (by decide) ?_
    refine go_N_ge hC 60 dX3_digest_40 (by decide) rfl rfl (by omega) (by omega) (fun c40 => ?_) (fun c40 => ?_)
    · rw [rg_e c40] at he
      refine go_iconst hC (0) dX3_digest_60 (by decide) ?_
      refine go_istore_n hC dX3_digest_61 (by decide) ?_
      exact L3 0 h1 H f1 g1 _ (Nat.zero_le _) hM1 k0 ht1 he
    · rw [rg_c c40, List.foldl_cons] at he
      refine go_aload_n hC dX3_digest_43 rfl ?_
      refine go_aload_n hC dX3_digest_44 rfl ?_
      refine go_get hC kX3 hM1.1.1 1 q1753 dX3_digest_45 rfl (by decide) (Or.inl rfl) ?_
      refine go_iload_n hC dX3_digest_48 rfl ?_
      refine go_iald hC i hM1.1.2.1 dX3_digest_49 (by first | rfl | (simp only [nI_add, pk_mul, nI_1, Int32.add_zero]; done) | (simp only [nI_add, pk_mul, nI_1, Int32.add_zero]; exact congrArg nI (by omega))) (by omega) (by omega) ?_
      rw [hM1.r.1 i c40]
      refine go_i2l hC dX3_digest_50 ?_
      refine go_callV0 hC (c_X3_hashes hM1 (sN a.1 i).toInt64) (lw_V q2054 q2056 qs70 q83 q2057) hM1.1.1 rfl dX3_digest_51 1 rfl (by decide +kernel) rfl ⟨Nat.le_of_ble_eq_true rfl, Nat.le_of_ble_eq_true rfl⟩ (Nat.le_of_ble_eq_true rfl) ⟨rfl, rfl⟩ ?_
      rintro _ h2 ⟨rfl, hM2, ht2⟩
      refine go_iinc hC (v := nI (i + 1)) dX3_digest_54 rfl (nI_1 _) (by decide) ?_
      refine go_goto hC 38 dX3_digest_57 (by decide) ?_
      exact ih (i + 1) h2 _ (by omega) f1 g1 (by omega) hM2 k0 (ht1.tr ht2) he
  have L1 : ∀ (i : Nat) (h1 : PH) (H : Int64) (f1 : Nat → Int32) (g1 : Nat → Nat → Int32), i ≤ 11 → MM G h1 m A f1 H g1 a → f1 0 = nI 0 → Mto h h1 m → dgU a (dg4 a.1 (dg3 a.1 (dg2 a.1 ((List.range' i (11 - i)).foldl (fun h w => hi h (cnt a.1 a.2.1.length w)) H)))) = oDig a → Go X G h1 0 0 14 [some (.ref m), some (.int (nI i)), none] [] := by
    refine lpC (fun i _ _ => 11 - i) (fun i h1 H ih f1 g1 hi' hM1 k0 ht1 he => ?_)
    refine go_iload_n hC dX3_digest_14 rfl ?_
    refine go_bipush hC (nI 11) dX3_digest_15 (by decide) ?_
    refine go_N_ge hC 36 dX3_digest_17 (by decide) rfl rfl (by omega) (by omega) (fun c17 => ?_) (fun c17 => ?_)
    · rw [rg_e c17] at he
      refine go_iconst hC (0) dX3_digest_36 (by decide) ?_
      refine go_istore_n hC dX3_digest_37 (by decide) ?_
      exact L2 0 h1 H f1 g1 (Nat.zero_le _) hM1 k0 ht1 he
    · rw [rg_c c17, List.foldl_cons] at he
      refine go_aload_n hC dX3_digest_20 rfl ?_
      refine go_aload_n hC dX3_digest_21 rfl ?_
      refine go_iload_n hC dX3_digest_22 rfl ?_
      refine go_callV0 hC (c_X3_counts hM1.1 hM1.r hw.1 a.2.1.length i hM1.2.2.1 (by omega)) (lw_V q1989 q1991 qs62 q83 q1992) hM1.1.1 rfl dX3_digest_23 1 rfl (by decide +kernel) rfl ⟨Nat.le_of_ble_eq_true rfl, Nat.le_of_ble_eq_true rfl⟩ (Nat.le_of_ble_eq_true rfl) ⟨rfl, rfl⟩ ?_
      rintro _ _ ⟨rfl, rfl⟩
      refine go_i2l hC dX3_digest_26 ?_
      refine go_callV0 hC (c_X3_hashes hM1 (cnt a.1 a.2.1.length i).toInt64) (lw_V q2054 q2056 qs70 q83 q2057) hM1.1.1 rfl dX3_digest_27 1 rfl (by decide +kernel) rfl ⟨Nat.le_of_ble_eq_true rfl, Nat.le_of_ble_eq_true rfl⟩ (Nat.le_of_ble_eq_true rfl) ⟨rfl, rfl⟩ ?_
      rintro _ h2 ⟨rfl, hM2, ht2⟩
      refine go_iinc hC (v := nI (i + 1)) dX3_digest_30 rfl (nI_1 _) (by decide) ?_
      refine go_goto hC 14 dX3_digest_33 (by decide) ?_
      exact ih (i + 1) h2 _ (by omega) f1 g1 (by omega) hM2 k0 (ht1.tr ht2) he
  refine go_aload_n hC dX3_digest_0 rfl ?_
  refine go_iconst hC (0) dX3_digest_1 (by decide) ?_
  refine go_put hC kX3 hM.1.1 0 q1752 dX3_digest_2 (by decide) (Nat.le_of_ble_eq_true rfl) (Or.inl rfl) rfl rfl rfl ?_
  refine hM.st (fun h1 hM1 ht1 => ?_)
  have hM2 : MM G (hu h1 m (m, 0) (ob 6 ((mfs A (upd f 0 0) hs).set 15 (.long 2963)))) m A (upd f 0 0) 2963 g a := hM1.u (hM1.1.uo rfl) rfl rfl
  refine go_aload_n hC dX3_digest_5 rfl ?_
  refine go_ldc2 hC dX3_digest_6 q2053 ?_
  refine go_put hC kX3 hM1.1.1 15 q1767 dX3_digest_9 (by decide) (Nat.le_of_ble_eq_true rfl) (Or.inl rfl) rfl rfl rfl ?_
  refine go_iconst hC (0) dX3_digest_12 (by decide) ?_
  refine go_istore_n hC dX3_digest_13 (by decide) ?_
  exact L1 0 _ 2963 _ g (Nat.zero_le _) hM2 rfl (ht1.st hM1.1.1) rfl
end M10
