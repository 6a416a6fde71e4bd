/-! THE REFERENCE, what only reads, on -/
set_option maxRecDepth 100000
def fpok (j : Nat) : Bool := match Jvm.FP.Core.decode Jvm.FP.Core.b64 (FP.i2d (nI j)).toNat with
  | .fin _ c _ => j == 0 || c != 0
  | _ => false
theorem fpok_all : (List.range 801).all fpok = true := by decide +kernel
theorem fp_fin {j : Nat} (hj : j ≤ 800) : ∃ s c q, Jvm.FP.Core.decode Jvm.FP.Core.b64 (FP.i2d (nI j)).toNat = .fin s c q ∧ (j = 0 ∨ c ≠ 0) := by
  have h := List.all_eq_true.mp fpok_all j (List.mem_range.mpr (by omega))
  unfold fpok at h
  cases hd : Jvm.FP.Core.decode Jvm.FP.Core.b64 (FP.i2d (nI j)).toNat with
  | nan => rw [hd] at h; cases h
  | inf s => rw [hd] at h; cases h
  | fin s c q =>
    rw [hd] at h
    refine ⟨s, c, q, rfl, ?_⟩
    simpa using h
theorem asm_ok (s : Bool) (e t : Nat) (he : e ≤ 2046) (ht : t < 2 ^ 52) : vf_n64 (UInt64.ofNat (Jvm.FP.Core.assemble Jvm.FP.Core.b64 s e t)) := by
  show _ &&& _ ≤ _
  rw [UInt64.le_iff_toNat_le, UInt64.toNat_and]
  have e1 : (UInt64.ofNat (Jvm.FP.Core.assemble Jvm.FP.Core.b64 s e t)).toNat = (s.toNat * 2048 + e) * 2 ^ 52 + t := by
    rw [UInt64.toNat_ofNat']
    show ((s.toNat * 2 ^ 11 + e) * 2 ^ 52 + t) % 2 ^ 64 = _
    have : s.toNat ≤ 1 := by cases s <;> decide
    rw [Nat.mod_eq_of_lt (by cases s <;> simp <;> omega)]
  rw [e1]
  have e2 : (0x7fffffffffffffff : UInt64).toNat = 2 ^ 63 - 1 := by decide
  rw [e2, Nat.and_two_pow_sub_one_eq_mod]
  show _ ≤ 9218868437227405312
  cases s <;> simp <;> omega
theorem bnd_ok (s : Bool) (c : Nat) (q : Int) (hc : c < 2 ^ 53) : vf_n64 (UInt64.ofNat (Jvm.FP.Core.encode Jvm.FP.Core.b64 (Jvm.FP.Core.bound Jvm.FP.Core.b64 s c q))) := by
  unfold Jvm.FP.Core.bound
  split
  · rename_i hq
    unfold Jvm.FP.Core.encode
    split
    · rename_i h; cases h
    · rename_i h; cases h
    · rename_i s' c' q' h
      cases h
      split
      · rename_i hl
        exact asm_ok _ _ _ (by omega) (by have : Jvm.FP.Core.b64.tails = 2 ^ 52 := rfl; omega)
      · rename_i hl
        have e1 : Jvm.FP.Core.b64.tails = 2 ^ 52 := rfl
        have e2 : Jvm.FP.Core.b64.qmin = -1074 := by decide
        have e3 : Jvm.FP.Core.b64.qmax = 971 := by decide
        rw [e3] at hq
        exact asm_ok _ _ _ (by rw [e2]; omega) (by rw [e1] at hl ⊢; omega)
  · show vf_n64 (UInt64.ofNat (Jvm.FP.Core.assemble Jvm.FP.Core.b64 s 2047 0))
    cases s <;> (show _ &&& _ ≤ _) <;> decide +kernel
theorem nnd (j k : Nat) (hj : j ≤ 800) (hk : k ≤ 800) (hk0 : k ≠ 0) : vf_n64 (FP.ddiv (FP.i2d (nI j)) (FP.i2d (nI k))) := by
  obtain ⟨s, c, q, h1, -⟩ := fp_fin hj
  obtain ⟨s2, c2, q2, h2, h3⟩ := fp_fin hk
  have hc2 : c2 ≠ 0 := h3.resolve_left hk0
  show vf_n64 (UInt64.ofNat (Jvm.FP.Core.encode Jvm.FP.Core.b64 (Jvm.FP.Core.quotient Jvm.FP.Core.b64 (Jvm.FP.Core.decode Jvm.FP.Core.b64 _) (Jvm.FP.Core.decode Jvm.FP.Core.b64 _))))
  rw [h1, h2]
  show vf_n64 (UInt64.ofNat (Jvm.FP.Core.encode Jvm.FP.Core.b64 (if c2 = 0 then _ else _)))
  rw [if_neg hc2]
  unfold Jvm.FP.Core.roundRatio
  split
  · exact asm_ok _ _ _ (by omega) (by omega)
  · unfold Jvm.FP.Core.roundAt Jvm.FP.Core.settle
    split
    · rename_i h; exact bnd_ok _ _ _ h
    · exact bnd_ok _ _ _ (by decide)
section M1c
variable {G : GT} {h : PH} {m : Nat} {A : Nat → Nat} {f : Nat → Int32} {hs : Int64} {g : Nat → Nat → Int32} {t : St} {c : Nat}
theorem c_X3_even (hM : MRep G h m A f hs g) (hr : Row (g 1) t) (hw : WF c t) : CT G yX3_even cX3_even 4 (some .double) (rmL 4 0 0) [.ref m] h (fun v h' => v = some (.double (evn (sI t))) ∧ h = h') noX := by
  refine CT_of [some (.ref m), none, none, none] (by decide +kernel) rfl (Nat.le_of_ble_eq_true rfl) (fun X hC hF hE => ?_)
  have loop : ∀ (i : Nat) (a : Int32), i ≤ 12 → (List.range' i (12 - i)).foldl (fun a w => minI a (ld (sI t) w)) a = low12 (ld (sI t)) (top12 (ld (sI t))) → Go X G h 0 0 9 [some (.ref m), some (.int (top12 (ld (sI t)))), some (.int a), some (.int (nI i))] [] := by
    refine lpB (fun i _ => 12 - i) (fun i a ih hi ha => ?_)
    refine go_iload_n hC dX3_even_9 rfl ?_
    refine go_bipush hC (nI 12) dX3_even_10 (by decide) ?_
    refine go_N_ge hC 40 dX3_even_12 (by decide) rfl rfl (by omega) (by omega) (fun c12 => ?_) (fun c12 => ?_)
    · rw [rg_e c12] at ha
      refine go_iload_n hC dX3_even_40 rfl ?_
      refine go_if_ne hC 48 dX3_even_41 (by decide) (fun c41 => ?_) (fun c41 => ?_)
      · refine go_iload_n hC dX3_even_48 rfl ?_
        refine go_i2d hC dX3_even_49 ?_
        refine go_iload_n hC dX3_even_50 rfl ?_
        refine go_i2d hC dX3_even_51 ?_
        refine go_ddiv hC dX3_even_52 (by obtain ⟨j, hj, ej⟩ := hw.hlow; obtain ⟨k, hk, ek⟩ := hw.htop; rw [← ha] at ej; rw [show a = nI j from ej]; rw [ek] at c41 ⊢; exact nnd j k hj hk (fun z => c41 (by rw [z]; rfl))) ?_
        refine go_dret hC hF dX3_even_53 rfl ?_
        exact ⟨by simp only [evn]; rw [if_neg c41, ← ha]; rfl, rfl⟩
      · refine go_dconst1 hC dX3_even_44 ?_
        refine go_goto hC 53 dX3_even_45 (by decide) ?_
        refine go_dret hC hF dX3_even_53 rfl ?_
        exact ⟨by simp only [evn]; rw [if_pos c41], rfl⟩
    · rw [rg_c c12, List.foldl_cons] at ha
      refine go_aload_n hC dX3_even_15 rfl ?_
      refine go_iload_n hC dX3_even_16 rfl ?_
      refine go_callV0 hC (c_X3_loadOf hM hr hw i c12) (lw_V q1819 q1821 qs34 q83 q1822) hM.1 rfl dX3_even_17 1 rfl (by decide +kernel) rfl ⟨Nat.le_of_ble_eq_true rfl, Nat.le_of_ble_eq_true rfl⟩ (Nat.le_of_ble_eq_true rfl) ⟨rfl, rfl⟩ ?_
      rintro _ _ ⟨rfl, rfl⟩
      refine go_iload_n hC dX3_even_20 rfl ?_
      refine go_icmp_ge hC 32 dX3_even_21 (by decide) (fun c21 => ?_) (fun c21 => ?_)
      · refine go_iload_n hC dX3_even_32 rfl ?_
        refine go_istore_n hC dX3_even_33 (by decide) ?_
        refine go_iinc hC (v := nI (i + 1)) dX3_even_34 rfl (nI_1 _) (by decide) ?_
        refine go_goto hC 9 dX3_even_37 (by decide) ?_
        exact ih (i + 1) _ (by omega) (by omega) (by rw [← ha, minI_l c21])
      · refine go_aload_n hC dX3_even_24 rfl ?_
        refine go_iload_n hC dX3_even_25 rfl ?_
        refine go_callV0 hC (c_X3_loadOf hM hr hw i c12) (lw_V q1819 q1821 qs34 q83 q1822) hM.1 rfl dX3_even_26 1 rfl (by decide +kernel) rfl ⟨Nat.le_of_ble_eq_true rfl, Nat.le_of_ble_eq_true rfl⟩ (Nat.le_of_ble_eq_true rfl) ⟨rfl, rfl⟩ ?_
        rintro _ _ ⟨rfl, rfl⟩
        refine go_goto hC 33 dX3_even_29 (by decide) ?_
        refine go_istore_n hC dX3_even_33 (by decide) ?_
        refine go_iinc hC (v := nI (i + 1)) dX3_even_34 rfl (nI_1 _) (by decide) ?_
        refine go_goto hC 9 dX3_even_37 (by decide) ?_
        exact ih (i + 1) _ (by omega) (by omega) (by rw [← ha, minI_r c21])
  refine go_aload_n hC dX3_even_0 rfl ?_
  refine go_callV0 hC (c_X3_greatestLoad hM hr hw) (lw_V q1897 q1899 qs47 q83 q1900) hM.1 rfl dX3_even_1 0 rfl (by decide +kernel) rfl ⟨Nat.le_of_ble_eq_true rfl, Nat.le_of_ble_eq_true rfl⟩ (Nat.le_of_ble_eq_true rfl) ⟨rfl, rfl⟩ ?_
  rintro _ _ ⟨rfl, rfl⟩
  refine go_istore_n hC dX3_even_4 (by decide) ?_
  refine go_iload_n hC dX3_even_5 rfl ?_
  refine go_istore_n hC dX3_even_6 (by decide) ?_
  refine go_iconst hC (0) dX3_even_7 (by decide) ?_
  refine go_istore_n hC dX3_even_8 (by decide) ?_
  exact loop 0 _ (Nat.zero_le _) rfl
theorem c_X3_counts (hM : MRep G h m A f hs g) (hr : Row (g 1) t) (hw : WF c t) (k w : Nat) (hk : f 4 = nI k) (hww : w ≤ 10) : CT G yX3_counts cX3_counts 2 (some .int) (rmL 4 0 0) [.ref m, .int (nI w)] h (fun v h' => v = some (.int (cnt t k w)) ∧ h = h') noX := by
  refine CT_of [some (.ref m), some (.int (nI w))] (by decide +kernel) rfl (Nat.le_of_ble_eq_true rfl) (fun X hC hF hE => ?_)
  have h3 := hr.2.1
  have h9 := hr.2.2.2.2.1
  have hw3 := hw.w
  rcases (show w = 0 ∨ w = 1 ∨ w = 2 ∨ w = 3 ∨ w = 4 ∨ w = 9 ∨ w = 10 ∨ w = 5 ∨ w = 6 ∨ w = 7 ∨ w = 8 by omega) with rfl | rfl | rfl | rfl | rfl | rfl | rfl | rfl | rfl | rfl | rfl
  · refine go_iload_n hC dX3_counts_0 rfl ?_
    refine go_tabIn hC 60 dX3_counts_1 (by decide) (by decide) rfl (by decide) ?_
    refine go_aload_n hC dX3_counts_60 rfl ?_
    refine go_get hC kX3 hM.1 1 q1753 dX3_counts_61 rfl (by decide) (Or.inl rfl) ?_
    refine go_iconst hC (nI 3) dX3_counts_64 (by decide) ?_
    refine go_iald hC 3 hM.2.1 dX3_counts_65 (by first | rfl | (simp only [nI_add, pk_mul, nI_1, Int32.add_zero]; done) | (simp only [nI_add, pk_mul, nI_1, Int32.add_zero]; exact congrArg nI (by omega))) (by omega) (by omega) ?_
    refine go_iret hC hF dX3_counts_66 rfl rfl ?_
    exact ⟨by rw [h3]; rfl, rfl⟩
  · refine go_iload_n hC dX3_counts_0 rfl ?_
    refine go_tabIn hC 67 dX3_counts_1 (by decide) (by decide) rfl (by decide) ?_
    refine go_aload_n hC dX3_counts_67 rfl ?_
    refine go_get hC kX3 hM.1 1 q1753 dX3_counts_68 rfl (by decide) (Or.inl rfl) ?_
    refine go_bipush hC (nI 9) dX3_counts_71 (by decide) ?_
    refine go_iald hC 9 hM.2.1 dX3_counts_73 (by first | rfl | (simp only [nI_add, pk_mul, nI_1, Int32.add_zero]; done) | (simp only [nI_add, pk_mul, nI_1, Int32.add_zero]; exact congrArg nI (by omega))) (by omega) (by omega) ?_
    refine go_iret hC hF dX3_counts_74 rfl rfl ?_
    exact ⟨by rw [h9]; rfl, rfl⟩
  · refine go_iload_n hC dX3_counts_0 rfl ?_
    refine go_tabIn hC 75 dX3_counts_1 (by decide) (by decide) rfl (by decide) ?_
    refine go_aload_n hC dX3_counts_75 rfl ?_
    refine go_callV0 hC (c_X3_loadOfAll hM hr hw) (lw_V q1993 q1995 qs63 q83 q1996) hM.1 rfl dX3_counts_76 0 rfl (by decide +kernel) rfl ⟨Nat.le_of_ble_eq_true rfl, Nat.le_of_ble_eq_true rfl⟩ (Nat.le_of_ble_eq_true rfl) ⟨rfl, rfl⟩ ?_
    rintro _ _ ⟨rfl, rfl⟩
    refine go_iret hC hF dX3_counts_79 rfl rfl ?_
    exact ⟨rfl, rfl⟩
  · refine go_iload_n hC dX3_counts_0 rfl ?_
    refine go_tabIn hC 80 dX3_counts_1 (by decide) (by decide) rfl (by decide) ?_
    refine go_aload_n hC dX3_counts_80 rfl ?_
    refine go_aload_n hC dX3_counts_81 rfl ?_
    refine go_get hC kX3 hM.1 1 q1753 dX3_counts_82 rfl (by decide) (Or.inl rfl) ?_
    refine go_iconst hC (nI 3) dX3_counts_85 (by decide) ?_
    refine go_iald hC 3 hM.2.1 dX3_counts_86 (by first | rfl | (simp only [nI_add, pk_mul, nI_1, Int32.add_zero]; done) | (simp only [nI_add, pk_mul, nI_1, Int32.add_zero]; exact congrArg nI (by omega))) (by omega) (by omega) ?_
    rw [h3]
    refine go_callV0 hC (c_X3_imbalance hM hr hw.d _ hw3) (lw_V q1831 q1833 qs37 q83 q1834) hM.1 rfl dX3_counts_87 1 rfl (by decide +kernel) rfl ⟨Nat.le_of_ble_eq_true rfl, Nat.le_of_ble_eq_true rfl⟩ (Nat.le_of_ble_eq_true rfl) ⟨rfl, rfl⟩ ?_
    rintro _ _ ⟨rfl, rfl⟩
    refine go_iret hC hF dX3_counts_90 rfl rfl ?_
    exact ⟨rfl, rfl⟩
  · refine go_iload_n hC dX3_counts_0 rfl ?_
    refine go_tabIn hC 91 dX3_counts_1 (by decide) (by decide) rfl (by decide) ?_
    refine go_aload_n hC dX3_counts_91 rfl ?_
    refine go_callV0 hC (c_X3_greatest hM hr hw) (lw_V q1997 q1999 qs64 q83 q2000) hM.1 rfl dX3_counts_92 0 rfl (by decide +kernel) rfl ⟨Nat.le_of_ble_eq_true rfl, Nat.le_of_ble_eq_true rfl⟩ (Nat.le_of_ble_eq_true rfl) ⟨rfl, rfl⟩ ?_
    rintro _ _ ⟨rfl, rfl⟩
    refine go_iret hC hF dX3_counts_95 rfl rfl ?_
    exact ⟨rfl, rfl⟩
  · refine go_iload_n hC dX3_counts_0 rfl ?_
    refine go_tabIn hC 96 dX3_counts_1 (by decide) (by decide) rfl (by decide) ?_
    refine go_aload_n hC dX3_counts_96 rfl ?_
    refine go_callV0 hC (c_X3_jammed hM hr) (lw_V q2001 q2003 qs65 q83 q2004) hM.1 rfl dX3_counts_97 0 rfl (by decide +kernel) rfl ⟨Nat.le_of_ble_eq_true rfl, Nat.le_of_ble_eq_true rfl⟩ (Nat.le_of_ble_eq_true rfl) ⟨rfl, rfl⟩ ?_
    rintro _ _ ⟨rfl, rfl⟩
    refine go_iret hC hF dX3_counts_100 rfl rfl ?_
    exact ⟨rfl, rfl⟩
  · refine go_iload_n hC dX3_counts_0 rfl ?_
    refine go_tabIn hC 101 dX3_counts_1 (by decide) (by decide) rfl (by decide) ?_
    refine go_aload_n hC dX3_counts_101 rfl ?_
    refine go_get hC kX3 hM.1 4 q1756 dX3_counts_102 rfl (by decide) (Or.inl rfl) ?_
    refine go_iret hC hF dX3_counts_105 rfl rfl ?_
    exact ⟨by rw [hk]; rfl, rfl⟩
  · refine go_iload_n hC dX3_counts_0 rfl ?_
    refine go_tabIn hC 106 dX3_counts_1 (by decide) (by decide) rfl (by decide) ?_
    refine go_aload_n hC dX3_counts_106 rfl ?_
    refine go_get hC kX3 hM.1 1 q1753 dX3_counts_107 rfl (by decide) (Or.inl rfl) ?_
    refine go_iconst hC (nI 4) dX3_counts_110 (by decide) ?_
    refine go_iload_n hC dX3_counts_111 rfl ?_
    refine go_iadd hC dX3_counts_112 ?_
    refine go_iconst hC (nI 5) dX3_counts_113 (by decide) ?_
    refine go_isub hC dX3_counts_114 ?_
    refine go_iald hC 4 hM.2.1 dX3_counts_115 (by decide) (by omega) (by omega) ?_
    refine go_iret hC hF dX3_counts_116 rfl rfl ?_
    exact ⟨by rw [hr.2.2.1 4 (by omega) (by omega)]; rfl, rfl⟩
  · refine go_iload_n hC dX3_counts_0 rfl ?_
    refine go_tabIn hC 106 dX3_counts_1 (by decide) (by decide) rfl (by decide) ?_
    refine go_aload_n hC dX3_counts_106 rfl ?_
    refine go_get hC kX3 hM.1 1 q1753 dX3_counts_107 rfl (by decide) (Or.inl rfl) ?_
    refine go_iconst hC (nI 4) dX3_counts_110 (by decide) ?_
    refine go_iload_n hC dX3_counts_111 rfl ?_
    refine go_iadd hC dX3_counts_112 ?_
    refine go_iconst hC (nI 5) dX3_counts_113 (by decide) ?_
    refine go_isub hC dX3_counts_114 ?_
    refine go_iald hC 5 hM.2.1 dX3_counts_115 (by decide) (by omega) (by omega) ?_
    refine go_iret hC hF dX3_counts_116 rfl rfl ?_
    exact ⟨by rw [hr.2.2.1 5 (by omega) (by omega)]; rfl, rfl⟩
  · refine go_iload_n hC dX3_counts_0 rfl ?_
    refine go_tabIn hC 106 dX3_counts_1 (by decide) (by decide) rfl (by decide) ?_
    refine go_aload_n hC dX3_counts_106 rfl ?_
    refine go_get hC kX3 hM.1 1 q1753 dX3_counts_107 rfl (by decide) (Or.inl rfl) ?_
    refine go_iconst hC (nI 4) dX3_counts_110 (by decide) ?_
    refine go_iload_n hC dX3_counts_111 rfl ?_
    refine go_iadd hC dX3_counts_112 ?_
    refine go_iconst hC (nI 5) dX3_counts_113 (by decide) ?_
    refine go_isub hC dX3_counts_114 ?_
    refine go_iald hC 6 hM.2.1 dX3_counts_115 (by decide) (by omega) (by omega) ?_
    refine go_iret hC hF dX3_counts_116 rfl rfl ?_
    exact ⟨by rw [hr.2.2.1 6 (by omega) (by omega)]; rfl, rfl⟩
  · refine go_iload_n hC dX3_counts_0 rfl ?_
    refine go_tabIn hC 106 dX3_counts_1 (by decide) (by decide) rfl (by decide) ?_
    refine go_aload_n hC dX3_counts_106 rfl ?_
    refine go_get hC kX3 hM.1 1 q1753 dX3_counts_107 rfl (by decide) (Or.inl rfl) ?_
    refine go_iconst hC (nI 4) dX3_counts_110 (by decide) ?_
    refine go_iload_n hC dX3_counts_111 rfl ?_
    refine go_iadd hC dX3_counts_112 ?_
    refine go_iconst hC (nI 5) dX3_counts_113 (by decide) ?_
    refine go_isub hC dX3_counts_114 ?_
    refine go_iald hC 7 hM.2.1 dX3_counts_115 (by decide) (by omega) (by omega) ?_
    refine go_iret hC hF dX3_counts_116 rfl rfl ?_
    exact ⟨by rw [hr.2.2.1 7 (by omega) (by omega)]; rfl, rfl⟩
theorem c_X3_tellsDrawer (hM : MRep G h m A f hs g) (hr : Row (g 1) t) (hw : WF c t) (d w : Nat) (hd : d < 12) (hww : w ≤ 5) : CT G yX3_tellsDrawer cX3_tellsDrawer 3 (some .int) (rmL 4 0 0) [.ref m, .int (nI d), .int (nI w)] h (fun v h' => v = some (.int (tel t d w)) ∧ h = h') noX := by
  refine CT_of [some (.ref m), some (.int (nI d)), some (.int (nI w))] (by decide +kernel) rfl (Nat.le_of_ble_eq_true rfl) (fun X hC hF hE => ?_)
  have h3 := hr.2.1
  have hw3 := hw.w
  rcases (show w = 0 ∨ w = 1 ∨ w = 2 ∨ w = 3 ∨ w = 4 ∨ w = 5 by omega) with rfl | rfl | rfl | rfl | rfl | rfl
  · refine go_iload_n hC dX3_tellsDrawer_0 rfl ?_
    refine go_tabIn hC 36 dX3_tellsDrawer_1 (by decide) (by decide) rfl (by decide) ?_
    refine go_aload_n hC dX3_tellsDrawer_36 rfl ?_
    refine go_iload_n hC dX3_tellsDrawer_37 rfl ?_
    refine go_callV0 hC (c_X3_loadOf hM hr hw d hd) (lw_V q1819 q1821 qs34 q83 q1822) hM.1 rfl dX3_tellsDrawer_38 1 rfl (by decide +kernel) rfl ⟨Nat.le_of_ble_eq_true rfl, Nat.le_of_ble_eq_true rfl⟩ (Nat.le_of_ble_eq_true rfl) ⟨rfl, rfl⟩ ?_
    rintro _ _ ⟨rfl, rfl⟩
    refine go_iret hC hF dX3_tellsDrawer_41 rfl rfl ?_
    exact ⟨rfl, rfl⟩
  · refine go_iload_n hC dX3_tellsDrawer_0 rfl ?_
    refine go_tabIn hC 42 dX3_tellsDrawer_1 (by decide) (by decide) rfl (by decide) ?_
    refine go_aload_n hC dX3_tellsDrawer_42 rfl ?_
    refine go_iload_n hC dX3_tellsDrawer_43 rfl ?_
    refine go_callV0 hC (c_X3_itemsOf hM hr hw d hd) (lw_V q1977 q1979 qs61 q83 q1980) hM.1 rfl dX3_tellsDrawer_44 1 rfl (by decide +kernel) rfl ⟨Nat.le_of_ble_eq_true rfl, Nat.le_of_ble_eq_true rfl⟩ (Nat.le_of_ble_eq_true rfl) ⟨rfl, rfl⟩ ?_
    rintro _ _ ⟨rfl, rfl⟩
    refine go_iret hC hF dX3_tellsDrawer_47 rfl rfl ?_
    exact ⟨rfl, rfl⟩
  · refine go_iload_n hC dX3_tellsDrawer_0 rfl ?_
    refine go_tabIn hC 48 dX3_tellsDrawer_1 (by decide) (by decide) rfl (by decide) ?_
    refine go_iload_n hC dX3_tellsDrawer_48 rfl ?_
    refine go_aload_n hC dX3_tellsDrawer_49 rfl ?_
    refine go_get hC kX3 hM.1 1 q1753 dX3_tellsDrawer_50 rfl (by decide) (Or.inl rfl) ?_
    refine go_iconst hC (nI 3) dX3_tellsDrawer_53 (by decide) ?_
    refine go_iald hC 3 hM.2.1 dX3_tellsDrawer_54 (by first | rfl | (simp only [nI_add, pk_mul, nI_1, Int32.add_zero]; done) | (simp only [nI_add, pk_mul, nI_1, Int32.add_zero]; exact congrArg nI (by omega))) (by omega) (by omega) ?_
    rw [h3]
    refine go_callS0 hC (c_X3_placeOf d _ hd hw3) (lw_S q1835 q1836 q83 q1837) dX3_tellsDrawer_55 2 rfl (by decide +kernel) rfl ⟨Nat.le_of_ble_eq_true rfl, Nat.le_of_ble_eq_true rfl⟩ (Nat.le_of_ble_eq_true rfl) ⟨rfl, rfl⟩ ?_
    rintro _ _ ⟨rfl, rfl⟩
    refine go_iret hC hF dX3_tellsDrawer_58 rfl rfl ?_
    exact ⟨rfl, rfl⟩
  · refine go_iload_n hC dX3_tellsDrawer_0 rfl ?_
    refine go_tabIn hC 59 dX3_tellsDrawer_1 (by decide) (by decide) rfl (by decide) ?_
    refine go_aload_n hC dX3_tellsDrawer_59 rfl ?_
    refine go_get hC kX3 hM.1 1 q1753 dX3_tellsDrawer_60 rfl (by decide) (Or.inl rfl) ?_
    refine go_bipush hC (nI 10) dX3_tellsDrawer_63 (by decide) ?_
    refine go_iload_n hC dX3_tellsDrawer_65 rfl ?_
    refine go_iadd hC dX3_tellsDrawer_66 ?_
    refine go_iald hC (10+d) hM.2.1 dX3_tellsDrawer_67 (by first | rfl | (simp only [nI_add, pk_mul, nI_1, Int32.add_zero]; done) | (simp only [nI_add, pk_mul, nI_1, Int32.add_zero]; exact congrArg nI (by omega))) (by omega) (by omega) ?_
    refine go_iret hC hF dX3_tellsDrawer_68 rfl rfl ?_
    exact ⟨by rw [hr.2.2.2.2.2.1 d hd]; rfl, rfl⟩
  · refine go_iload_n hC dX3_tellsDrawer_0 rfl ?_
    refine go_tabIn hC 69 dX3_tellsDrawer_1 (by decide) (by decide) rfl (by decide) ?_
    refine go_aload_n hC dX3_tellsDrawer_69 rfl ?_
    refine go_iload_n hC dX3_tellsDrawer_70 rfl ?_
    refine go_callV0 hC (c_X3_imbalance hM hr hw.d d hd) (lw_V q1831 q1833 qs37 q83 q1834) hM.1 rfl dX3_tellsDrawer_71 1 rfl (by decide +kernel) rfl ⟨Nat.le_of_ble_eq_true rfl, Nat.le_of_ble_eq_true rfl⟩ (Nat.le_of_ble_eq_true rfl) ⟨rfl, rfl⟩ ?_
    rintro _ _ ⟨rfl, rfl⟩
    refine go_iret hC hF dX3_tellsDrawer_74 rfl rfl ?_
    exact ⟨rfl, rfl⟩
  · refine go_iload_n hC dX3_tellsDrawer_0 rfl ?_
    refine go_tabOut hC 75 dX3_tellsDrawer_1 (by decide) (by decide) ?_
    refine go_aload_n hC dX3_tellsDrawer_75 rfl ?_
    refine go_get hC kX3 hM.1 1 q1753 dX3_tellsDrawer_76 rfl (by decide) (Or.inl rfl) ?_
    refine go_iconst hC (1) dX3_tellsDrawer_79 (by decide) ?_
    refine go_iald hC 1 hM.2.1 dX3_tellsDrawer_80 (by first | rfl | (simp only [nI_add, pk_mul, nI_1, Int32.add_zero]; done) | (simp only [nI_add, pk_mul, nI_1, Int32.add_zero]; exact congrArg nI (by omega))) (by omega) (by omega) ?_
    refine go_aload_n hC dX3_tellsDrawer_81 rfl ?_
    refine go_iload_n hC dX3_tellsDrawer_82 rfl ?_
    refine go_callV0 hC (c_X3_loadOf hM hr hw d hd) (lw_V q1819 q1821 qs34 q83 q1822) hM.1 rfl dX3_tellsDrawer_83 1 rfl (by decide +kernel) rfl ⟨Nat.le_of_ble_eq_true rfl, Nat.le_of_ble_eq_true rfl⟩ (Nat.le_of_ble_eq_true rfl) ⟨rfl, rfl⟩ ?_
    rintro _ _ ⟨rfl, rfl⟩
    refine go_isub hC dX3_tellsDrawer_86 ?_
    refine go_iret hC hF dX3_tellsDrawer_87 rfl rfl ?_
    exact ⟨by rw [hr.1 1 (by omega)]; rfl, rfl⟩
theorem c_X3_greatestWith (hM : MRep G h m A f hs g) (hr : Row (g 1) t) (hw : WF c t) (d : Nat) (hd : d < 12) (v : Int32) : CT G yX3_greatestWith cX3_greatestWith 9 (some .int) (rmL 3 0 0) [.ref m, .int (nI d), .int v] h (fun z h' => z = some (.int (gw (sI t) d v)) ∧ h = h') noX := by
  refine CT_of [some (.ref m), some (.int (nI d)), some (.int v), none, none, none, none, none, none] (by decide +kernel) rfl (Nat.le_of_ble_eq_true rfl) (fun X hC hF hE => ?_)
  have outer : ∀ (i : Nat) (a : Int32) (z5 z6 z7 z8 : Option Value), i ≤ 12 → (List.range' i (12 - i)).foldl (fun a w => maxI a (absI (smL (addL (ld (sI t)) d v) w))) a = gw (sI t) d v → Go X G h 0 0 5 [some (.ref m), some (.int (nI d)), some (.int v), some (.int a), some (.int (nI i)), z5, z6, z7, z8] [] := by
    refine lpB (fun i _ => 12 - i) (fun i a ih z5 z6 z7 z8 hi ha => ?_)
    refine go_iload hC dX3_greatestWith_5 rfl ?_
    refine go_bipush hC (nI 12) dX3_greatestWith_7 (by decide) ?_
    refine go_N_ge hC 121 dX3_greatestWith_9 (by decide) rfl rfl (by omega) (by omega) (fun c9 => ?_) (fun c9 => ?_)
    · rw [rg_e c9] at ha
      refine go_iload_n hC dX3_greatestWith_121 rfl ?_
      refine go_iret hC hF dX3_greatestWith_122 rfl rfl ?_
      exact ⟨by rw [← ha]; rfl, rfl⟩
    · rw [rg_c c9, List.foldl_cons] at ha
      have inner : ∀ (o : Nat) (b : Int32) (z7 z8 : Option Value), o ≤ 12 → (List.range' o (12 - o)).foldl (fun a o => a + sgn (plc o i) (addL (ld (sI t)) d v o)) b = smL (addL (ld (sI t)) d v) i → Go X G h 0 0 18 [some (.ref m), some (.int (nI d)), some (.int v), some (.int a), some (.int (nI i)), some (.int b), some (.int (nI o)), z7, z8] [] := by
        refine lpB (fun o _ => 12 - o) (fun o b ihn z7 z8 ho hb => ?_)
        refine go_iload hC dX3_greatestWith_18 rfl ?_
        refine go_bipush hC (nI 12) dX3_greatestWith_20 (by decide) ?_
        refine go_N_ge hC 96 dX3_greatestWith_22 (by decide) rfl rfl (by omega) (by omega) (fun c22 => ?_) (fun c22 => ?_)
        · rw [rg_e c22, List.foldl_nil] at hb
          refine go_iload hC dX3_greatestWith_96 rfl ?_
          refine go_callS0 hC (c_X3_size b) (lw_S q1878 q1879 q83 q1880) dX3_greatestWith_98 1 rfl (by decide +kernel) rfl ⟨Nat.le_of_ble_eq_true rfl, Nat.le_of_ble_eq_true rfl⟩ (Nat.le_of_ble_eq_true rfl) ⟨rfl, rfl⟩ ?_
          rintro _ _ ⟨rfl, rfl⟩
          refine go_iload_n hC dX3_greatestWith_101 rfl ?_
          refine go_icmp_le hC 113 dX3_greatestWith_102 (by decide) (fun c102 => ?_) (fun c102 => ?_)
          · refine go_iload_n hC dX3_greatestWith_113 rfl ?_
            refine go_istore_n hC dX3_greatestWith_114 (by decide) ?_
            refine go_iinc hC (v := nI (i + 1)) dX3_greatestWith_115 rfl (nI_1 _) (by decide) ?_
            refine go_goto hC 5 dX3_greatestWith_118 (by decide) ?_
            exact ih (i + 1) _ (by omega) _ _ _ _ (by omega) (by rw [← ha, ← hb, maxI_l c102])
          · refine go_iload hC dX3_greatestWith_105 rfl ?_
            refine go_callS0 hC (c_X3_size b) (lw_S q1878 q1879 q83 q1880) dX3_greatestWith_107 1 rfl (by decide +kernel) rfl ⟨Nat.le_of_ble_eq_true rfl, Nat.le_of_ble_eq_true rfl⟩ (Nat.le_of_ble_eq_true rfl) ⟨rfl, rfl⟩ ?_
            rintro _ _ ⟨rfl, rfl⟩
            refine go_goto hC 114 dX3_greatestWith_110 (by decide) ?_
            refine go_istore_n hC dX3_greatestWith_114 (by decide) ?_
            refine go_iinc hC (v := nI (i + 1)) dX3_greatestWith_115 rfl (nI_1 _) (by decide) ?_
            refine go_goto hC 5 dX3_greatestWith_118 (by decide) ?_
            exact ih (i + 1) _ (by omega) _ _ _ _ (by omega) (by rw [← ha, ← hb, maxI_r c102])
        · rw [rg_c c22, List.foldl_cons] at hb
          have hp := plc_lt o i
          have back : ∀ (q y : Int32), q = sgn (plc o i) (addL (ld (sI t)) d v o) → Go X G h 0 0 87 [some (.ref m), some (.int (nI d)), some (.int v), some (.int a), some (.int (nI i)), some (.int b), some (.int (nI o)), some (.int (nI (plc o i))), some (.int y)] [.int q, .int b] := by
            intro q y hq
            refine go_iadd hC dX3_greatestWith_87 ?_
            refine go_istore hC dX3_greatestWith_88 (by decide) ?_
            refine go_iinc hC (v := nI (o + 1)) dX3_greatestWith_90 rfl (nI_1 _) (by decide) ?_
            refine go_goto hC 18 dX3_greatestWith_93 (by decide) ?_
            exact ihn (o + 1) _ (by omega) _ _ (by omega) (by rw [← hb, hq])
          have mid : ∀ (y : Int32), y = addL (ld (sI t)) d v o → Go X G h 0 0 52 [some (.ref m), some (.int (nI d)), some (.int v), some (.int a), some (.int (nI i)), some (.int b), some (.int (nI o)), some (.int (nI (plc o i))), z8] [.int y] := by
            intro y hy
            refine go_istore hC dX3_greatestWith_52 (by decide) ?_
            refine go_iload hC dX3_greatestWith_54 rfl ?_
            refine go_iload hC dX3_greatestWith_56 rfl ?_
            refine go_if_eq hC 68 dX3_greatestWith_58 (by decide) (fun c58 => ?_) (fun c58 => ?_)
            · rw [nI_e0 (by omega)] at c58
              refine go_iconst hC (0) dX3_greatestWith_68 (by decide) ?_
              refine go_goto hC 87 dX3_greatestWith_69 (by decide) ?_
              exact back _ _ (by simp only [sgn, if_pos c58])
            · rw [nI_e0 (by omega)] at c58
              refine go_iload hC dX3_greatestWith_61 rfl ?_
              refine go_bipush hC (nI 6) dX3_greatestWith_63 (by decide) ?_
              refine go_N_ne hC 72 dX3_greatestWith_65 (by decide) rfl rfl (by omega) (by omega) (fun c65 => ?_) (fun c65 => ?_)
              · refine go_iload hC dX3_greatestWith_72 rfl ?_
                refine go_bipush hC (nI 6) dX3_greatestWith_74 (by decide) ?_
                refine go_N_ge hC 84 dX3_greatestWith_76 (by decide) rfl rfl (by omega) (by omega) (fun c76 => ?_) (fun c76 => ?_)
                · refine go_iload hC dX3_greatestWith_84 rfl ?_
                  refine go_ineg hC dX3_greatestWith_86 ?_
                  exact back _ _ (by simp only [sgn, if_neg c58, if_neg c65, if_neg (Nat.not_lt.mpr c76), hy])
                · refine go_iload hC dX3_greatestWith_79 rfl ?_
                  refine go_goto hC 87 dX3_greatestWith_81 (by decide) ?_
                  exact back _ _ (by simp only [sgn, if_neg c58, if_neg c65, if_pos c76, hy])
              · refine go_iconst hC (0) dX3_greatestWith_68 (by decide) ?_
                refine go_goto hC 87 dX3_greatestWith_69 (by decide) ?_
                exact back _ _ (by simp only [sgn, if_neg c58, if_pos c65])
          refine go_iload hC dX3_greatestWith_25 rfl ?_
          refine go_iload hC dX3_greatestWith_27 rfl ?_
          refine go_callS0 hC (c_X3_placeOf o i (by omega) (by omega)) (lw_S q1835 q1836 q83 q1837) dX3_greatestWith_29 2 rfl (by decide +kernel) rfl ⟨Nat.le_of_ble_eq_true rfl, Nat.le_of_ble_eq_true rfl⟩ (Nat.le_of_ble_eq_true rfl) ⟨rfl, rfl⟩ ?_
          rintro _ _ ⟨rfl, rfl⟩
          refine go_istore hC dX3_greatestWith_32 (by decide) ?_
          refine go_aload_n hC dX3_greatestWith_34 rfl ?_
          refine go_iload hC dX3_greatestWith_35 rfl ?_
          refine go_callV0 hC (c_X3_loadOf hM hr hw o (by omega)) (lw_V q1819 q1821 qs34 q83 q1822) hM.1 rfl dX3_greatestWith_37 1 rfl (by decide +kernel) rfl ⟨Nat.le_of_ble_eq_true rfl, Nat.le_of_ble_eq_true rfl⟩ (Nat.le_of_ble_eq_true rfl) ⟨rfl, rfl⟩ ?_
          rintro _ _ ⟨rfl, rfl⟩
          refine go_iload hC dX3_greatestWith_40 rfl ?_
          refine go_iload_n hC dX3_greatestWith_42 rfl ?_
          refine go_N_ne hC 50 dX3_greatestWith_43 (by decide) rfl rfl (by omega) (by omega) (fun c43 => ?_) (fun c43 => ?_)
          · refine go_iconst hC (0) dX3_greatestWith_50 (by decide) ?_
            refine go_iadd hC dX3_greatestWith_51 ?_
            exact mid _ (by simp only [addL, if_neg c43])
          · refine go_iload_n hC dX3_greatestWith_46 rfl ?_
            refine go_goto hC 51 dX3_greatestWith_47 (by decide) ?_
            refine go_iadd hC dX3_greatestWith_51 ?_
            exact mid _ (by simp only [addL, if_pos c43])
      refine go_iconst hC (0) dX3_greatestWith_12 (by decide) ?_
      refine go_istore hC dX3_greatestWith_13 (by decide) ?_
      refine go_iconst hC (0) dX3_greatestWith_15 (by decide) ?_
      refine go_istore hC dX3_greatestWith_16 (by decide) ?_
      exact inner 0 0 _ _ (Nat.zero_le _) rfl
  refine go_iconst hC (0) dX3_greatestWith_0 (by decide) ?_
  refine go_istore_n hC dX3_greatestWith_1 (by decide) ?_
  refine go_iconst hC (0) dX3_greatestWith_2 (by decide) ?_
  refine go_istore hC dX3_greatestWith_3 (by decide) ?_
  exact outer 0 0 _ _ _ _ (Nat.zero_le _) rfl
theorem c_X3_drawerFor (hM : MRep G h m A f hs g) (hr : Row (g 1) t) (hw : WF c t) (v : Int32) : CT G yX3_drawerFor cX3_drawerFor 7 (some .int) (rmL 4 0 0) [.ref m, .int v] h (fun z h' => z = some (.int (posI (bst t v))) ∧ h = h') noX := by
  refine CT_of [some (.ref m), some (.int v), none, none, none, none, none] (by decide +kernel) rfl (Nat.le_of_ble_eq_true rfl) (fun X hC hF hE => ?_)
  have loop : ∀ (i : Nat) (b : Option Nat) (l : Int32) (z5 z6 : Option Value), i ≤ 12 → (∀ q, b = some q → q < 12) → ((List.range' i (12 - i)).foldl (bstf t v) (b, l)).1 = bst t v → Go X G h 0 0 7 [some (.ref m), some (.int v), some (.int (posI b)), some (.int l), some (.int (nI i)), z5, z6] [] := by
    refine lpC (fun i _ _ => 12 - i) (fun i b l ih z5 z6 hi hbb ha => ?_)
    refine go_iload hC dX3_drawerFor_7 rfl ?_
    refine go_bipush hC (nI 12) dX3_drawerFor_9 (by decide) ?_
    refine go_N_ge hC 108 dX3_drawerFor_11 (by decide) rfl rfl (by omega) (by omega) (fun c11 => ?_) (fun c11 => ?_)
    · rw [rg_e c11] at ha
      refine go_iload_n hC dX3_drawerFor_108 rfl ?_
      refine go_iret hC hF dX3_drawerFor_109 rfl rfl ?_
      exact ⟨by rw [← ha]; rfl, rfl⟩
    · rw [rg_c c11, List.foldl_cons] at ha
      have hj := hr.2.2.2.2.2.1 i c11
      have hl := hr.1 1 (by omega)
      have no : ∀ z6, bstf t v (b, l) i = (b, l) → Go X G h 0 0 102 [some (.ref m), some (.int v), some (.int (posI b)), some (.int l), some (.int (nI i)), some (.int (gw (sI t) i v)), z6] [] := by
        intro z6 hz
        refine go_iinc hC (v := nI (i + 1)) dX3_drawerFor_102 rfl (nI_1 _) (by decide) ?_
        refine go_goto hC 7 dX3_drawerFor_105 (by decide) ?_
        exact ih (i + 1) b l (by omega) _ _ (by omega) hbb (by rw [← ha, hz])
      have yes : ∀ z6, bstf t v (b, l) i = (some i, gw (sI t) i v) → Go X G h 0 0 96 [some (.ref m), some (.int v), some (.int (posI b)), some (.int l), some (.int (nI i)), some (.int (gw (sI t) i v)), z6] [] := by
        intro z6 hz
        refine go_iload hC dX3_drawerFor_96 rfl ?_
        refine go_istore_n hC dX3_drawerFor_98 (by decide) ?_
        refine go_iload hC dX3_drawerFor_99 rfl ?_
        refine go_istore_n hC dX3_drawerFor_101 (by decide) ?_
        refine go_iinc hC (v := nI (i + 1)) dX3_drawerFor_102 rfl (nI_1 _) (by decide) ?_
        refine go_goto hC 7 dX3_drawerFor_105 (by decide) ?_
        exact ih (i + 1) (some i) _ (by omega) _ _ (by omega) (fun q e => by cases e; exact c11) (by rw [← ha, hz])
      refine go_aload_n hC dX3_drawerFor_14 rfl ?_
      refine go_iload hC dX3_drawerFor_15 rfl ?_
      refine go_iload_n hC dX3_drawerFor_17 rfl ?_
      refine go_callV0 hC (c_X3_greatestWith hM hr hw i c11 v) (lw_V q2021 q2023 qs66 q83 q2024) hM.1 rfl dX3_drawerFor_18 2 rfl (by decide +kernel) rfl ⟨Nat.le_of_ble_eq_true rfl, Nat.le_of_ble_eq_true rfl⟩ (Nat.le_of_ble_eq_true rfl) ⟨rfl, rfl⟩ ?_
      rintro _ _ ⟨rfl, rfl⟩
      refine go_istore hC dX3_drawerFor_21 (by decide) ?_
      refine go_aload_n hC dX3_drawerFor_23 rfl ?_
      refine go_get hC kX3 hM.1 1 q1753 dX3_drawerFor_24 rfl (by decide) (Or.inl rfl) ?_
      refine go_bipush hC (nI 10) dX3_drawerFor_27 (by decide) ?_
      refine go_iload hC dX3_drawerFor_29 rfl ?_
      refine go_iadd hC dX3_drawerFor_31 ?_
      refine go_iald hC (10+i) hM.2.1 dX3_drawerFor_32 (by first | rfl | (simp only [nI_add, pk_mul, nI_1, Int32.add_zero]; done) | (simp only [nI_add, pk_mul, nI_1, Int32.add_zero]; exact congrArg nI (by omega))) (by omega) (by omega) ?_
      rw [hj]
      refine go_B_ne hC 57 dX3_drawerFor_33 (by decide) rfl (fun c33 => ?_) (fun c33 => ?_)
      · refine go_iconst hC (0) dX3_drawerFor_57 (by decide) ?_
        refine go_istore hC dX3_drawerFor_58 (by decide) ?_
        refine go_iload hC dX3_drawerFor_60 rfl ?_
        refine go_if_eq hC 102 dX3_drawerFor_62 (by decide) (fun _ => ?_) (fun z => absurd rfl z)
        exact no _ (by simp only [bstf]; rw [if_neg (fun z => absurd (c33.symm.trans z.1) (by decide))])
      · refine go_aload_n hC dX3_drawerFor_36 rfl ?_
        refine go_iload hC dX3_drawerFor_37 rfl ?_
        refine go_callV0 hC (c_X3_loadOf hM hr hw i c11) (lw_V q1819 q1821 qs34 q83 q1822) hM.1 rfl dX3_drawerFor_39 1 rfl (by decide +kernel) rfl ⟨Nat.le_of_ble_eq_true rfl, Nat.le_of_ble_eq_true rfl⟩ (Nat.le_of_ble_eq_true rfl) ⟨rfl, rfl⟩ ?_
        rintro _ _ ⟨rfl, rfl⟩
        refine go_iload_n hC dX3_drawerFor_42 rfl ?_
        refine go_iadd hC dX3_drawerFor_43 ?_
        refine go_aload_n hC dX3_drawerFor_44 rfl ?_
        refine go_get hC kX3 hM.1 1 q1753 dX3_drawerFor_45 rfl (by decide) (Or.inl rfl) ?_
        refine go_iconst hC (1) dX3_drawerFor_48 (by decide) ?_
        refine go_iald hC 1 hM.2.1 dX3_drawerFor_49 (by first | rfl | (simp only [nI_add, pk_mul, nI_1, Int32.add_zero]; done) | (simp only [nI_add, pk_mul, nI_1, Int32.add_zero]; exact congrArg nI (by omega))) (by omega) (by omega) ?_
        rw [hl]
        refine go_icmp_gt hC 57 dX3_drawerFor_50 (by decide) (fun c50 => ?_) (fun c50 => ?_)
        · refine go_iconst hC (0) dX3_drawerFor_57 (by decide) ?_
          refine go_istore hC dX3_drawerFor_58 (by decide) ?_
          refine go_iload hC dX3_drawerFor_60 rfl ?_
          refine go_if_eq hC 102 dX3_drawerFor_62 (by decide) (fun _ => ?_) (fun z => absurd rfl z)
          exact no _ (by simp only [bstf]; rw [if_neg (fun z => absurd z.2 (i32_nle.mpr c50))])
        · have hcan : sJ t i = false ∧ ld (sI t) i + v ≤ sN t 1 := ⟨c33, i32_nlt.mp c50⟩
          refine go_iconst hC (1) dX3_drawerFor_53 (by decide) ?_
          refine go_goto hC 58 dX3_drawerFor_54 (by decide) ?_
          refine go_istore hC dX3_drawerFor_58 (by decide) ?_
          refine go_iload hC dX3_drawerFor_60 rfl ?_
          refine go_if_eq hC 102 dX3_drawerFor_62 (by decide) (fun z => absurd z (by decide)) (fun _ => ?_)
          cases b with
          | none =>
            refine go_iload_n hC dX3_drawerFor_65 rfl ?_
            refine go_iconst hC (-1) dX3_drawerFor_66 (by decide) ?_
            refine go_icmp_eq hC 96 dX3_drawerFor_67 (by decide) (fun _ => ?_) (fun z => absurd rfl z)
            exact yes _ (by simp only [bstf]; rw [if_pos hcan])
          | some q =>
            have hq := hbb q rfl
            have hne : ¬ posI (some q) = -1 := fun z => absurd (congrArg Int32.toInt z) (by show ¬ (nI q).toInt = -1; rw [nI_toInt (by omega)]; omega)
            refine go_iload_n hC dX3_drawerFor_65 rfl ?_
            refine go_iconst hC (-1) dX3_drawerFor_66 (by decide) ?_
            refine go_icmp_eq hC 96 dX3_drawerFor_67 (by decide) (fun z => absurd z hne) (fun _ => ?_)
            refine go_iload hC dX3_drawerFor_70 rfl ?_
            refine go_iload_n hC dX3_drawerFor_72 rfl ?_
            refine go_icmp_lt hC 96 dX3_drawerFor_73 (by decide) (fun c73 => ?_) (fun c73 => ?_)
            · exact yes _ (by simp only [bstf]; rw [if_pos hcan, if_pos (Or.inl c73)])
            · refine go_iload hC dX3_drawerFor_76 rfl ?_
              refine go_iload_n hC dX3_drawerFor_78 rfl ?_
              refine go_icmp_ne hC 102 dX3_drawerFor_79 (by decide) (fun c79 => ?_) (fun c79 => ?_)
              · exact no _ (by simp only [bstf]; rw [if_pos hcan, if_neg (fun z => z.elim c73 (fun y => c79 y.1))])
              · refine go_aload_n hC dX3_drawerFor_82 rfl ?_
                refine go_iload hC dX3_drawerFor_83 rfl ?_
                refine go_callV0 hC (c_X3_loadOf hM hr hw i c11) (lw_V q1819 q1821 qs34 q83 q1822) hM.1 rfl dX3_drawerFor_85 1 rfl (by decide +kernel) rfl ⟨Nat.le_of_ble_eq_true rfl, Nat.le_of_ble_eq_true rfl⟩ (Nat.le_of_ble_eq_true rfl) ⟨rfl, rfl⟩ ?_
                rintro _ _ ⟨rfl, rfl⟩
                refine go_aload_n hC dX3_drawerFor_88 rfl ?_
                refine go_iload_n hC dX3_drawerFor_89 rfl ?_
                refine go_callV0 hC (c_X3_loadOf hM hr hw q hq) (lw_V q1819 q1821 qs34 q83 q1822) hM.1 rfl dX3_drawerFor_90 1 rfl (by decide +kernel) rfl ⟨Nat.le_of_ble_eq_true rfl, Nat.le_of_ble_eq_true rfl⟩ (Nat.le_of_ble_eq_true rfl) ⟨rfl, rfl⟩ ?_
                rintro _ _ ⟨rfl, rfl⟩
                refine go_icmp_ge hC 102 dX3_drawerFor_93 (by decide) (fun c93 => ?_) (fun c93 => ?_)
                · exact no _ (by simp only [bstf]; rw [if_pos hcan, if_neg (fun z => z.elim c73 (fun y => absurd y.2 (i32_nlt.mpr c93)))])
                · exact yes _ (by simp only [bstf]; rw [if_pos hcan, if_pos (Or.inr ⟨c79, i32_nle.mp c93⟩)])
  refine go_iconst hC (-1) dX3_drawerFor_0 (by decide) ?_
  refine go_istore_n hC dX3_drawerFor_1 (by decide) ?_
  refine go_iconst hC (0) dX3_drawerFor_2 (by decide) ?_
  refine go_istore_n hC dX3_drawerFor_3 (by decide) ?_
  refine go_iconst hC (0) dX3_drawerFor_4 (by decide) ?_
  refine go_istore hC dX3_drawerFor_5 (by decide) ?_
  exact loop 0 none 0 _ _ (Nat.zero_le _) (fun q e => by cases e) rfl
end M1c
