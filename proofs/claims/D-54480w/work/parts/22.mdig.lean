/-! THE REFERENCE: its calls, on; its digest -/
set_option maxRecDepth 100000
theorem go_d2l {X : Cx} {G : GT} {h : PH} {k n pc nL : Nat} {lv : List (Option Value)} {rest : List Value} {cc : ByteArray} {own : String} {ret : Option FieldType} {rm : Room} (hC : CxOK X G cc nL own ret rm) {index : Nat} {b : UInt64} (hlink : Cond.methodLink own index ⟨"java/lang/Double", "doubleToRawLongBits", "(D)J"⟩ ∈ lw_all) (hrm : 1 ≤ rm.frames ∧ 80 ≤ rm.locals) (hcat : (rest.map fun v => v.category).sum ≤ 8) (hd : decode cc pc = .ok (.invokestatic index, 3)) (kk : Go X G h k n (pc + 3) lv (.long b.toInt64 :: rest)) : Go X G h k n pc lv (.double b :: rest) := by
  intro H locs cells slots ls hR hS hl q1 q2
  have hr := hC.2.2.2.2.2.2.2.2.2.1
  exact vn_d2l hC.1 hC.2.1 hl.1.symm hC.2.2.2.1 (hC.2.2.2.2.1 _ hlink) (hC.2.2.2.2.1 _ q1510) (hC.2.2.2.2.1 _ q1509) (hC.2.2.2.2.1 _ q111) (by rw [hr]; exact hrm.1) (by rw [hr]; omega) hd (kk H locs cells slots ls hR hS hl q1 q2)
section M8
variable {G : GT} {h : PH} {m : Nat} {A : Nat → Nat} {f : Nat → Int32} {hs : Int64} {g : Nat → Nat → Int32} {a : AS} {c k : Nat}
theorem c_J29_isNaN (x : UInt64) : CT G yJ29_isNaN cJ29_isNaN 2 (some .boolean) (rmL 0 0 0) [.double x] h (fun v h' => v = some (.int (bI (decide (¬ Op.cmpValue (FP.dcmp x x) .l = 0)))) ∧ h = h') noX := by
  refine CT_of [some (.double x), none] (by decide +kernel) rfl (Nat.le_of_ble_eq_true rfl) (fun X hC hF hE => ?_)
  refine go_dload_n hC dJ29_isNaN_0 rfl ?_
  refine go_dload_n hC dJ29_isNaN_1 rfl ?_
  refine go_dcmp hC dJ29_isNaN_2 ?_
  refine go_if_eq hC 10 dJ29_isNaN_3 (by decide) (fun c3 => ?_) (fun c3 => ?_)
  · refine go_iconst hC (0) dJ29_isNaN_10 (by decide) ?_
    refine go_iret hC hF dJ29_isNaN_11 rfl rfl ?_
    exact ⟨by rw [decide_eq_false (fun z => z c3)]; rfl, rfl⟩
  · refine go_iconst hC (1) dJ29_isNaN_6 (by decide) ?_
    refine go_goto hC 11 dJ29_isNaN_7 (by decide) ?_
    refine go_iret hC hF dJ29_isNaN_11 rfl rfl ?_
    exact ⟨by rw [decide_eq_true c3]; rfl, rfl⟩
theorem c_J29_bits (x : UInt64) : CT G yJ29_doubleToLongBits cJ29_doubleToLongBits 2 (some .long) (rmL 1 0 0) [.double x] h (fun v h' => v = some (.long (dbits x)) ∧ h = h') noX := by
  refine CT_of [some (.double x), none] (by decide +kernel) rfl (Nat.le_of_ble_eq_true rfl) (fun X hC hF hE => ?_)
  refine go_dload_n hC dJ29_doubleToLongBits_0 rfl ?_
  refine go_callS0 hC (c_J29_isNaN x) (lw_S q1505 q1506 q111 q1507) dJ29_doubleToLongBits_1 1 rfl (by decide +kernel) rfl ⟨Nat.le_of_ble_eq_true rfl, Nat.le_of_ble_eq_true rfl⟩ (Nat.le_of_ble_eq_true rfl) ⟨rfl, rfl⟩ ?_
  rintro _ _ ⟨rfl, rfl⟩
  refine go_B_ne hC 12 dJ29_doubleToLongBits_4 (by decide) rfl (fun c4 => ?_) (fun c4 => ?_)
  · refine go_ldc2 hC dJ29_doubleToLongBits_12 q1511 ?_
    refine go_lret hC hF dJ29_doubleToLongBits_15 rfl ?_
    exact ⟨by unfold dbits; rw [if_neg (of_decide_eq_true c4)], rfl⟩
  · refine go_dload_n hC dJ29_doubleToLongBits_7 rfl ?_
    refine go_d2l hC q1508 ⟨Nat.le_of_ble_eq_true rfl, Nat.le_of_ble_eq_true rfl⟩ (Nat.le_of_ble_eq_true rfl) dJ29_doubleToLongBits_8 ?_
    refine go_lret hC hF dJ29_doubleToLongBits_11 rfl ?_
    exact ⟨by unfold dbits; rw [if_pos (Decidable.of_not_not (of_decide_eq_false c4))], rfl⟩
theorem MM.u (hM : MM G h m A f hs g a) {h2 : PH} {f2 : Nat → Int32} {hs2 : Int64} (h2M : MRep G h2 m A f2 hs2 g) (e4 : f2 4 = f 4) (e6 : f2 6 = f 6) : MM G h2 m A f2 hs2 g a := by
  obtain ⟨h1, h2, h3, h4, h5, h6⟩ := hM
  exact ⟨h2M, h2, e4.trans h3, h4, e6.trans h5, h6⟩
theorem MM.gg (hM : MM G h m A f hs g a) {h2 : PH} {f2 : Nat → Int32} {hs2 : Int64} {g2 : Nat → Nat → Int32} (h2M : MRep G h2 m A f2 hs2 g2) (e4 : f2 4 = f 4) (e6 : f2 6 = f 6) (e1 : Row (g2 1) a.1) (e3 : g2 3 = g 3) (e5 : g2 5 = g 5) : MM G h2 m A f2 hs2 g2 a := by
  obtain ⟨h1, h2, h3, h4, h5, h6⟩ := hM
  exact ⟨h2M, e1, e4.trans h3, by rw [e3]; exact h4, e6.trans h5, by rw [e5]; exact h6⟩
theorem arL_nil {s : Nat → Int32} : arL s [] := fun j x hx => by simp at hx
theorem arL_app {s : Nat → Int32} {l : List Nat} (h : arL s l) (x : Nat) : arL (upd s l.length (nI x)) (l ++ [x]) := by
  intro j y hy
  rcases Nat.lt_or_ge j l.length with q | q
  · rw [List.getElem?_append_left q] at hy
    rw [pk_un (by omega)]; exact h j y hy
  · have hk2 := (List.getElem?_eq_some_iff.mp hy).1
    rw [List.length_append, List.length_singleton] at hk2
    have hkl : j = l.length := by omega
    subst hkl
    rw [List.getElem?_append_right (Nat.le_refl _), Nat.sub_self] at hy
    cases hy
    exact pk_us
theorem c_X3_append (hQ : MQr G h m a k) (hw : WFA c a) (x : Int32) : CT G yX3_append cX3_append 2 (some .int) (rmL 12 0 0) [.ref m, .int x] h (fun z h' => PMo G h m (oApp a x) z h') noX := by
  obtain ⟨A, f, hs, g, hM, -⟩ := hQ
  refine CT_of [some (.ref m), some (.int x)] (by decide +kernel) rfl (Nat.le_of_ble_eq_true rfl) (fun X hC hF hE => ?_)
  have hl := hw.2.2.2.1
  refine go_aload_n hC dX3_append_0 rfl ?_
  refine go_iconst hC (0) dX3_append_1 (by decide) ?_
  refine go_put hC kX3 hM.1.1 0 q1752 dX3_append_2 (by decide) (Nat.le_of_ble_eq_true rfl) (Or.inl rfl) rfl rfl rfl ?_
  refine hM.st (fun h1 hM1 ht1 => ?_)
  have k6 : upd f 0 0 6 = nI a.2.2.length := hM1.2.2.2.2.1
  refine go_iload_n hC dX3_append_5 rfl ?_
  refine go_bipush hC (nI 33) dX3_append_6 (by decide) ?_
  refine go_bipush hC (nI 126) dX3_append_8 (by decide) ?_
  refine go_callS0 hC (c_X3_in x (nI 33) (nI 126)) (lw_S q1812 q1813 q83 q1814) dX3_append_10 3 rfl (by decide +kernel) rfl ⟨Nat.le_of_ble_eq_true rfl, Nat.le_of_ble_eq_true rfl⟩ (Nat.le_of_ble_eq_true rfl) ⟨rfl, rfl⟩ ?_
  rintro _ _ ⟨rfl, rfl⟩
  refine go_B_ne hC 22 dX3_append_13 (by decide) rfl (fun c13 => ?_) (fun c13 => ?_)
  rotate_left
  · refine go_aload_n hC dX3_append_16 rfl ?_
    refine go_iconst hC (1) dX3_append_17 (by decide) ?_
    refine go_callV0 hC (c_X3_fails hM1.1 1) (lw_V q1815 q1817 qs33 q83 q1818) hM1.1.1 rfl dX3_append_18 1 rfl (by decide +kernel) rfl ⟨Nat.le_of_ble_eq_true rfl, Nat.le_of_ble_eq_true rfl⟩ (Nat.le_of_ble_eq_true rfl) ⟨rfl, rfl⟩ ?_
    rintro _ h2 ⟨rfl, hM2, ht2⟩
    refine go_iret hC hF dX3_append_21 rfl rfl ?_
    rw [show oApp a x = (1, 0, a) from if_pos c13]
    exact ⟨rfl, hM1.fl hM2 rfl, ht1.tr ht2⟩
  obtain ⟨j, j1, -, j2, j3⟩ := inB_k (by omega) c13 (by omega)
  have hv : oApp a x = if a.2.2.length = 60 then (2, 0, a) else (0, nI (a.2.2.length + 1), (a.1, a.2.1, a.2.2 ++ [j])) := by
    unfold oApp
    rw [if_neg (fun q => absurd (q.symm.trans c13) (by decide)), j3]
  subst j2
  refine go_aload_n hC dX3_append_22 rfl ?_
  refine go_get hC kX3 hM1.1.1 6 q1758 dX3_append_23 rfl (by decide) (Or.inl rfl) ?_
  refine go_bipush hC (nI 60) dX3_append_26 (by decide) ?_
  refine go_N_ne hC 37 dX3_append_28 (by decide) k6 rfl (by omega) (by omega) (fun c28 => ?_) (fun c28 => ?_)
  · have hM2 := hM1.1.u5 (upd (g 5) a.2.2.length (nI j))
    have ht2 : Mto h (hu h1 (A 5) (m, 5) (ia G 60 (upd (g 5) a.2.2.length (nI j)))) m := ht1.st hM1.1.2.2.2.2.1
    have hM3 : MRep G (hu (hu h1 (A 5) (m, 5) (ia G 60 (upd (g 5) a.2.2.length (nI j)))) m (m, 0) (ob 6 ((mfs A (upd f 0 0) hs).set 6 (.int (upd f 0 0 6 + 1))))) m A (upd (upd f 0 0) 6 (upd f 0 0 6 + 1)) hs (va_up g 5 (upd (g 5) a.2.2.length (nI j))) := hM2.uo rfl
    have ht3 : Mto h (hu (hu h1 (A 5) (m, 5) (ia G 60 (upd (g 5) a.2.2.length (nI j)))) m (m, 0) (ob 6 ((mfs A (upd f 0 0) hs).set 6 (.int (upd f 0 0 6 + 1))))) m := ht2.st hM2.1
    refine go_aload_n hC dX3_append_37 rfl ?_
    refine go_get hC kX3 hM1.1.1 5 q1757 dX3_append_38 rfl (by decide) (Or.inl rfl) ?_
    refine go_aload_n hC dX3_append_41 rfl ?_
    refine go_get hC kX3 hM1.1.1 6 q1758 dX3_append_42 rfl (by decide) (Or.inl rfl) ?_
    refine go_iload_n hC dX3_append_45 rfl ?_
    refine go_iast hC a.2.2.length hM1.1.2.2.2.2.1 dX3_append_46 k6 (by omega) (by omega) ?_
    refine go_aload_n hC dX3_append_47 rfl ?_
    refine go_dup hC dX3_append_48 rfl ?_
    refine go_get hC kX3 hM2.1 6 q1758 dX3_append_49 rfl (by decide) (Or.inl rfl) ?_
    refine go_iconst hC (1) dX3_append_52 (by decide) ?_
    refine go_iadd hC dX3_append_53 ?_
    refine go_put hC kX3 hM2.1 6 q1758 dX3_append_54 (by decide) (Nat.le_of_ble_eq_true rfl) (Or.inl rfl) rfl rfl rfl ?_
    refine go_aload_n hC dX3_append_57 rfl ?_
    refine go_get hC kX3 hM3.1 6 q1758 dX3_append_58 rfl (by decide) (Or.inl rfl) ?_
    refine go_iret hC hF dX3_append_61 rfl rfl ?_
    rw [hv, if_neg c28]
    refine ⟨?_, ⟨A, _, hs, _, ⟨hM3, hM1.r, ?_, ?_, ?_, ?_⟩, rfl⟩, ht3⟩
    · show some (Value.int (upd f 0 0 6 + 1)) = _
      rw [k6, nI_1]
    · exact hM1.2.2.1
    · exact hM1.2.2.2.1
    · show upd f 0 0 6 + 1 = nI (_ ++ [_]).length
      rw [k6, List.length_append, List.length_singleton, nI_1]
    · exact arL_app hM1.2.2.2.2.2 j
  · refine go_aload_n hC dX3_append_31 rfl ?_
    refine go_iconst hC (nI 2) dX3_append_32 (by decide) ?_
    refine go_callV0 hC (c_X3_fails hM1.1 (nI 2)) (lw_V q1815 q1817 qs33 q83 q1818) hM1.1.1 rfl dX3_append_33 1 rfl (by decide +kernel) rfl ⟨Nat.le_of_ble_eq_true rfl, Nat.le_of_ble_eq_true rfl⟩ (Nat.le_of_ble_eq_true rfl) ⟨rfl, rfl⟩ ?_
    rintro _ h2 ⟨rfl, hM2, ht2⟩
    refine go_iret hC hF dX3_append_36 rfl rfl ?_
    rw [hv, if_pos c28]
    exact ⟨rfl, hM1.fl hM2 rfl, ht1.tr ht2⟩
theorem c_X3_clearBuffer (hQ : MQr G h m a k) : CT G yX3_clearBuffer cX3_clearBuffer 2 (some .int) (rmL 12 0 0) [.ref m] h (fun z h' => PMo G h m (oClr a) z h') noX := by
  obtain ⟨A, f, hs, g, hM, -⟩ := hQ
  refine CT_of [some (.ref m), none] (by decide +kernel) rfl (Nat.le_of_ble_eq_true rfl) (fun X hC hF hE => ?_)
  refine go_aload_n hC dX3_clearBuffer_0 rfl ?_
  refine go_iconst hC (0) dX3_clearBuffer_1 (by decide) ?_
  refine go_put hC kX3 hM.1.1 0 q1752 dX3_clearBuffer_2 (by decide) (Nat.le_of_ble_eq_true rfl) (Or.inl rfl) rfl rfl rfl ?_
  refine hM.st (fun h1 hM1 ht1 => ?_)
  have hM3 : MRep G (hu h1 m (m, 0) (ob 6 ((mfs A (upd f 0 0) hs).set 6 (.int 0)))) m A (upd (upd f 0 0) 6 0) hs g := hM1.1.uo rfl
  refine go_aload_n hC dX3_clearBuffer_5 rfl ?_
  refine go_get hC kX3 hM1.1.1 6 q1758 dX3_clearBuffer_6 rfl (by decide) (Or.inl rfl) ?_
  refine go_istore_n hC dX3_clearBuffer_9 (by decide) ?_
  refine go_aload_n hC dX3_clearBuffer_10 rfl ?_
  refine go_iconst hC (0) dX3_clearBuffer_11 (by decide) ?_
  refine go_put hC kX3 hM1.1.1 6 q1758 dX3_clearBuffer_12 (by decide) (Nat.le_of_ble_eq_true rfl) (Or.inl rfl) rfl rfl rfl ?_
  refine go_iload_n hC dX3_clearBuffer_15 rfl ?_
  refine go_iret hC hF dX3_clearBuffer_16 rfl rfl ?_
  exact ⟨congrArg some (congrArg Value.int hM1.2.2.2.2.1), ⟨A, _, hs, g, ⟨hM3, hM1.r, hM1.2.2.1, hM1.2.2.2.1, rfl, arL_nil⟩, rfl⟩, ht1.st hM1.1.1⟩
theorem c_X3_firstError (hQ : MQr G h m a k) (hw : WFA c a) : CT G yX3_firstError cX3_firstError 1 (some .int) (rmL 12 0 0) [.ref m] h (fun z h' => PMo G h m (oErr a) z h') noX := by
  obtain ⟨A, f, hs, g, hM, -⟩ := hQ
  refine CT_of [some (.ref m)] (by decide +kernel) rfl (Nat.le_of_ble_eq_true rfl) (fun X hC hF hE => ?_)
  refine go_aload_n hC dX3_firstError_0 rfl ?_
  refine go_iconst hC (0) dX3_firstError_1 (by decide) ?_
  refine go_put hC kX3 hM.1.1 0 q1752 dX3_firstError_2 (by decide) (Nat.le_of_ble_eq_true rfl) (Or.inl rfl) rfl rfl rfl ?_
  refine hM.st (fun h1 hM1 ht1 => ?_)
  refine go_aload_n hC dX3_firstError_5 rfl ?_
  refine go_callV0 hC (c_X3_readsAll hM1.1 a.2.2 hw.2.2.2 hM1.2.2.2.2.2 hM1.2.2.2.2.1) (lw_V q1913 q1915 qs48 q83 q1916) hM1.1.1 rfl dX3_firstError_6 0 rfl (by decide +kernel) rfl ⟨Nat.le_of_ble_eq_true rfl, Nat.le_of_ble_eq_true rfl⟩ (Nat.le_of_ble_eq_true rfl) ⟨rfl, rfl⟩ ?_
  rintro _ h2 ⟨rfl, f2, s9, hM2, ht2, e8, e7, e10, e9, e0, e4, e6⟩
  refine go_aload_n hC dX3_firstError_9 rfl ?_
  refine go_get hC kX3 hM2.1 7 q1759 dX3_firstError_10 rfl (by decide) (Or.inl rfl) ?_
  refine go_iret hC hF dX3_firstError_13 rfl rfl ?_
  exact ⟨congrArg some (congrArg Value.int e7), ⟨A, _, hs, _, hM1.gg hM2 e4 e6 hM1.r rfl rfl, e0.trans rfl⟩, ht1.tr ht2⟩
theorem c_X3_pickAll (hQ : MQr G h m a k) (hw : WFA c a) (hc : c ≤ 64) : CT G yX3_pickAll cX3_pickAll 1 (some .int) (rmL 12 0 0) [.ref m] h (fun z h' => PMo G h m (oPall a) z h') noX := by
  obtain ⟨A, f, hs, g, hM, -⟩ := hQ
  refine CT_of [some (.ref m)] (by decide +kernel) rfl (Nat.le_of_ble_eq_true rfl) (fun X hC hF hE => ?_)
  refine go_aload_n hC dX3_pickAll_0 rfl ?_
  refine go_iconst hC (0) dX3_pickAll_1 (by decide) ?_
  refine go_put hC kX3 hM.1.1 0 q1752 dX3_pickAll_2 (by decide) (Nat.le_of_ble_eq_true rfl) (Or.inl rfl) rfl rfl rfl ?_
  refine hM.st (fun h1 hM1 ht1 => ?_)
  refine go_aload_n hC dX3_pickAll_5 rfl ?_
  refine go_callV0 hC (c_X3_readsAll hM1.1 a.2.2 hw.2.2.2 hM1.2.2.2.2.2 hM1.2.2.2.2.1) (lw_V q1913 q1915 qs48 q83 q1916) hM1.1.1 rfl dX3_pickAll_6 0 rfl (by decide +kernel) rfl ⟨Nat.le_of_ble_eq_true rfl, Nat.le_of_ble_eq_true rfl⟩ (Nat.le_of_ble_eq_true rfl) ⟨rfl, rfl⟩ ?_
  rintro _ h2 ⟨rfl, f2, s9, hM2, ht2, e8, e7, e10, e9, e0, e4, e6⟩
  refine go_aload_n hC dX3_pickAll_9 rfl ?_
  refine go_get hC kX3 hM2.1 8 q1760 dX3_pickAll_10 rfl (by decide) (Or.inl rfl) ?_
  refine go_B_ne hC 22 dX3_pickAll_13 (by decide) e8 (fun c13 => ?_) (fun c13 => ?_)
  rotate_left
  · refine go_aload_n hC dX3_pickAll_16 rfl ?_
    refine go_iconst hC (1) dX3_pickAll_17 (by decide) ?_
    refine go_callV0 hC (c_X3_fails hM2 1) (lw_V q1815 q1817 qs33 q83 q1818) hM2.1 rfl dX3_pickAll_18 1 rfl (by decide +kernel) rfl ⟨Nat.le_of_ble_eq_true rfl, Nat.le_of_ble_eq_true rfl⟩ (Nat.le_of_ble_eq_true rfl) ⟨rfl, rfl⟩ ?_
    rintro _ h3 ⟨rfl, hM3, ht3⟩
    refine go_iret hC hF dX3_pickAll_21 rfl rfl ?_
    rw [show oPall a = (1, 0, a) from if_pos c13]
    exact ⟨rfl, (hM1.gg hM2 e4 e6 hM1.r rfl rfl).fl hM3 rfl, (ht1.tr ht2).tr ht3⟩
  have hA2 : MM G h2 m A f2 hs (va_up g 9 s9) a := hM1.gg hM2 e4 e6 hM1.r rfl rfl
  refine go_aload_n hC dX3_pickAll_22 rfl ?_
  refine go_callV0 hC (c_X3_saves hA2 hw) (lw_V q1842 q1844 qs39 q83 q1845) hM2.1 rfl dX3_pickAll_23 0 rfl (by decide +kernel) rfl ⟨Nat.le_of_ble_eq_true rfl, Nat.le_of_ble_eq_true rfl⟩ (Nat.le_of_ble_eq_true rfl) ⟨rfl, rfl⟩ ?_
  rintro _ h5 ⟨rfl, f5, s5, hA5, ht5, k5⟩
  have hM6 : MRep G (hu h5 m (m, 0) (ob 6 ((mfs A f5 hs).set 6 (.int 0)))) m A (upd f5 6 0) hs (va_up (va_up g 9 s9) 3 s5) := hA5.1.uo rfl
  have ht6 : Mto h (hu h5 m (m, 0) (ob 6 ((mfs A f5 hs).set 6 (.int 0)))) m := ((ht1.tr ht2).tr ht5).st hA5.1.1
  have hb : Bat (upd f5 6 0) (va_up (va_up g 9 s9) 3 s5) (rdA a.2.2).2.2 := ⟨e9, (k5 10 (by decide)).trans e10, (rdA_ok a.2.2).2.1⟩
  refine go_aload_n hC dX3_pickAll_26 rfl ?_
  refine go_iconst hC (0) dX3_pickAll_27 (by decide) ?_
  refine go_put hC kX3 hA5.1.1 6 q1758 dX3_pickAll_28 (by decide) (Nat.le_of_ble_eq_true rfl) (Or.inl rfl) rfl rfl rfl ?_
  refine go_aload_n hC dX3_pickAll_31 rfl ?_
  refine go_aload_n hC dX3_pickAll_32 rfl ?_
  refine go_get hC kX3 hM6.1 1 q1753 dX3_pickAll_33 rfl (by decide) (Or.inl rfl) ?_
  refine go_iconst hC (nI 2) dX3_pickAll_36 (by decide) ?_
  refine go_iald hC 2 hM6.2.1 dX3_pickAll_37 (by first | rfl | (simp only [nI_add, pk_mul, nI_1, Int32.add_zero]; done) | (simp only [nI_add, pk_mul, nI_1, Int32.add_zero]; exact congrArg nI (by omega))) (by omega) (by omega) ?_
  rw [show va_up (va_up g 9 s9) 3 s5 1 2 = sN a.1 2 from hA5.r.1 2 (by omega)]
  refine go_callV0 hC (c_X3_picksBatch hM6 hA5.r hw.1 (by omega) (rdA a.2.2).2.2 hb (sN a.1 2)) (lw_V q1933 q1935 qs52 q83 q1936) hM6.1 rfl dX3_pickAll_38 1 rfl (by decide +kernel) rfl ⟨Nat.le_of_ble_eq_true rfl, Nat.le_of_ble_eq_true rfl⟩ (Nat.le_of_ble_eq_true rfl) ⟨rfl, rfl⟩ ?_
  rintro _ h7 ⟨rfl, g7, hM7, ht7, hr7, k72, k73, k75, k79⟩
  refine go_iret hC hF dX3_pickAll_41 rfl rfl ?_
  rw [show oPall a = (0, _, _) from if_neg (fun q => absurd (q.symm.trans c13) (by decide))]
  refine ⟨rfl, ⟨A, _, hs, g7, ⟨hM7, hr7, hA5.2.2.1, by rw [k73]; exact hA5.2.2.2.1, rfl, arL_nil⟩, ((k5 0 (by decide)).trans e0).trans rfl⟩, ht6.tr ht7⟩
theorem c_X3_undo (hQ : MQr G h m a k) (hw : WFA c a) : CT G yX3_undo cX3_undo 2 (some .int) (rmL 12 0 0) [.ref m] h (fun z h' => PMo G h m (oUndo a) z h') noX := by
  obtain ⟨A, f, hs, g, hM, -⟩ := hQ
  refine CT_of [some (.ref m), none] (by decide +kernel) rfl (Nat.le_of_ble_eq_true rfl) (fun X hC hF hE => ?_)
  have hl := hw.2.2.1
  refine go_aload_n hC dX3_undo_0 rfl ?_
  refine go_iconst hC (0) dX3_undo_1 (by decide) ?_
  refine go_put hC kX3 hM.1.1 0 q1752 dX3_undo_2 (by decide) (Nat.le_of_ble_eq_true rfl) (Or.inl rfl) rfl rfl rfl ?_
  refine hM.st (fun h1 hM1 ht1 => ?_)
  have k4 : upd f 0 0 4 = nI a.2.1.length := hM1.2.2.1
  refine go_aload_n hC dX3_undo_5 rfl ?_
  refine go_get hC kX3 hM1.1.1 4 q1756 dX3_undo_6 rfl (by decide) (Or.inl rfl) ?_
  refine go_if_ne hC 18 dX3_undo_9 (by decide) (fun c9 => ?_) (fun c9 => ?_)
  rotate_left
  · rw [k4, nI_e0 (by omega)] at c9
    refine go_aload_n hC dX3_undo_12 rfl ?_
    refine go_iconst hC (1) dX3_undo_13 (by decide) ?_
    refine go_callV0 hC (c_X3_fails hM1.1 1) (lw_V q1815 q1817 qs33 q83 q1818) hM1.1.1 rfl dX3_undo_14 1 rfl (by decide +kernel) rfl ⟨Nat.le_of_ble_eq_true rfl, Nat.le_of_ble_eq_true rfl⟩ (Nat.le_of_ble_eq_true rfl) ⟨rfl, rfl⟩ ?_
    rintro _ h2 ⟨rfl, hM2, ht2⟩
    refine go_iret hC hF dX3_undo_17 rfl rfl ?_
    have e : a.2.1 = [] := List.length_eq_zero_iff.mp c9
    rw [show oUndo a = (1, 0, a) by unfold oUndo; rw [e]; rfl]
    exact ⟨rfl, hM1.fl hM2 rfl, ht1.tr ht2⟩
  rw [k4, nI_e0 (by omega)] at c9
  obtain ⟨u, hu1⟩ : ∃ u, a.2.1[a.2.1.length - 1]? = some u := ⟨_, List.getElem?_eq_getElem (by omega)⟩
  have hv : oUndo a = (0, nI (a.2.1.length - 1), (u, a.2.1.dropLast, a.2.2)) := by unfold oUndo; rw [List.getLast?_eq_getElem?, hu1]
  have hru := hM1.2.2.2.1 _ u hu1
  have hwu := hw.2.1 u (List.mem_of_getElem? hu1)
  have k4' : upd f 0 0 4 - 1 = nI (a.2.1.length - 1) := by rw [k4]; exact pk_sub (b := 1) (by omega)
  have hM2 : MRep G (hu h1 m (m, 0) (ob 6 ((mfs A (upd f 0 0) hs).set 4 (.int (upd f 0 0 4 - 1))))) m A (upd (upd f 0 0) 4 (upd f 0 0 4 - 1)) hs g := hM1.1.uo rfl
  have ht2 : Mto h (hu h1 m (m, 0) (ob 6 ((mfs A (upd f 0 0) hs).set 4 (.int (upd f 0 0 4 - 1))))) m := ht1.st hM1.1.1
  refine go_aload_n hC dX3_undo_18 rfl ?_
  refine go_dup hC dX3_undo_19 rfl ?_
  refine go_get hC kX3 hM1.1.1 4 q1756 dX3_undo_20 rfl (by decide) (Or.inl rfl) ?_
  refine go_iconst hC (1) dX3_undo_23 (by decide) ?_
  refine go_isub hC dX3_undo_24 ?_
  refine go_put hC kX3 hM1.1.1 4 q1756 dX3_undo_25 (by decide) (Nat.le_of_ble_eq_true rfl) (Or.inl rfl) rfl rfl rfl ?_
  refine go_iconst hC (0) dX3_undo_28 (by decide) ?_
  refine go_istore_n hC dX3_undo_29 (by decide) ?_
  generalize hu h1 m (m, 0) (ob 6 ((mfs A (upd f 0 0) hs).set 4 (.int (upd f 0 0 4 - 1)))) = h2 at hM2 ht2
  have loop : ∀ (i : Nat) (s : Nat → Int32), i ≤ 142 → (∀ j, j < i → s j = g 3 (142 * (a.2.1.length - 1) + j)) → Go X G (hS G h2 m A s) 0 0 30 [some (.ref m), some (.int (nI i))] [] := by
    refine lpB (fun i _ => 142 - i) (fun i s ih hi hz => ?_)
    have hM3 := hM2.s s
    refine go_iload_n hC dX3_undo_30 rfl ?_
    refine go_sipush hC (nI 142) dX3_undo_31 (by decide) ?_
    refine go_N_ge hC 64 dX3_undo_34 (by decide) rfl rfl (by omega) (by omega) (fun c34 => ?_) (fun c34 => ?_)
    · refine go_aload_n hC dX3_undo_64 rfl ?_
      refine go_get hC kX3 hM3.1 4 q1756 dX3_undo_65 rfl (by decide) (Or.inl rfl) ?_
      refine go_iret hC hF dX3_undo_68 rfl rfl ?_
      rw [hv]
      refine ⟨congrArg some (congrArg Value.int k4'), ⟨A, _, hs, _, ⟨hM3, ?_, ?_, ?_, hM1.2.2.2.2.1, hM1.2.2.2.2.2⟩, rfl⟩, ht2.st hM2.2.1⟩
      · exact Row_cg hru hwu.n (fun j hj => hz j (by omega))
      · show upd f 0 0 4 - 1 = nI a.2.1.dropLast.length
        rw [k4', List.length_dropLast]
      · intro k w hk
        rw [List.getElem?_dropLast] at hk
        split at hk
        · exact hM1.2.2.2.1 k w hk
        · cases hk
    · refine go_aload_n hC dX3_undo_37 rfl ?_
      refine go_get hC kX3 hM3.1 1 q1753 dX3_undo_38 rfl (by decide) (Or.inl rfl) ?_
      refine go_iload_n hC dX3_undo_41 rfl ?_
      refine go_aload_n hC dX3_undo_42 rfl ?_
      refine go_get hC kX3 hM3.1 3 q1755 dX3_undo_43 rfl (by decide) (Or.inl rfl) ?_
      refine go_sipush hC (nI 142) dX3_undo_46 (by decide) ?_
      refine go_aload_n hC dX3_undo_49 rfl ?_
      refine go_get hC kX3 hM3.1 4 q1756 dX3_undo_50 rfl (by decide) (Or.inl rfl) ?_
      rw [show upd (upd f 0 0) 4 (upd f 0 0 4 - 1) 4 = nI (a.2.1.length - 1) from k4']
      refine go_imul hC dX3_undo_53 ?_
      refine go_iload_n hC dX3_undo_54 rfl ?_
      refine go_iadd hC dX3_undo_55 ?_
      refine go_iald hC (142*(a.2.1.length-1)+i) hM3.2.2.2.1 dX3_undo_56 (by first | rfl | (simp only [nI_add, pk_mul, nI_1, Int32.add_zero]; done) | (simp only [nI_add, pk_mul, nI_1, Int32.add_zero]; exact congrArg nI (by omega))) (by omega) (by omega) ?_
      refine go_iast hC i hM3.2.1 dX3_undo_57 (by first | rfl | (simp only [nI_add, pk_mul, nI_1, Int32.add_zero]; done) | (simp only [nI_add, pk_mul, nI_1, Int32.add_zero]; exact congrArg nI (by omega))) (by omega) (by omega) ?_
      rw [hu_hu]
      refine go_iinc hC (v := nI (i + 1)) dX3_undo_58 rfl (nI_1 _) (by decide) ?_
      refine go_goto hC 30 dX3_undo_61 (by decide) ?_
      refine ih (i + 1) _ (by omega) (by omega) (fun j hj => ?_)
      by_cases q : j = i
      · rw [q, pk_us]; rfl
      · rw [pk_un q]; exact hz j (by omega)
  have e0 : hS G h2 m A (g 1) = h2 := hu_id hM2.2.1
  rw [← e0]
  exact loop 0 (g 1) (Nat.zero_le _) (fun j hj => absurd hj (Nat.not_lt_zero _))
end M8
