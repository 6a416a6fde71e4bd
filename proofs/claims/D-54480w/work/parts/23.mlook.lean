/-! THE REFERENCE: its looks, its digest -/
set_option maxRecDepth 100000
section M9
variable {G : GT} {h : PH} {m : Nat} {A : Nat → Nat} {f : Nat → Int32} {hs : Int64} {g : Nat → Nat → Int32} {a : AS} {c k : Nat}
theorem c_X3_drawer (hQ : MQr G h m a k) (hw : WFA c a) (d w : Int32) : CT G yX3_drawer cX3_drawer 3 (some .int) (rmL 12 0 0) [.ref m, .int d, .int w] h (fun z h' => PMo G h m (oDrw a d w) z h') noX := by
  obtain ⟨A, f, hs, g, hM, -⟩ := hQ
  refine CT_of [some (.ref m), some (.int d), some (.int w)] (by decide +kernel) rfl (Nat.le_of_ble_eq_true rfl) (fun X hC hF hE => ?_)
  refine go_aload_n hC dX3_drawer_0 rfl ?_
  refine go_iconst hC (0) dX3_drawer_1 (by decide) ?_
  refine go_put hC kX3 hM.1.1 0 q1752 dX3_drawer_2 (by decide) (Nat.le_of_ble_eq_true rfl) (Or.inl rfl) rfl rfl rfl ?_
  refine hM.st (fun h1 hM1 ht1 => ?_)
  refine go_iload_n hC dX3_drawer_5 rfl ?_
  refine go_callS0 hC (c_X3_isDrawer d) (lw_S q1809 q1810 q83 q1811) dX3_drawer_6 1 rfl (by decide +kernel) rfl ⟨Nat.le_of_ble_eq_true rfl, Nat.le_of_ble_eq_true rfl⟩ (Nat.le_of_ble_eq_true rfl) ⟨rfl, rfl⟩ ?_
  rintro _ _ ⟨rfl, rfl⟩
  refine go_B_ne hC 18 dX3_drawer_9 (by decide) rfl (fun c9 => ?_) (fun c9 => ?_)
  rotate_left
  · refine go_aload_n hC dX3_drawer_12 rfl ?_
    refine go_iconst hC (1) dX3_drawer_13 (by decide) ?_
    refine go_callV0 hC (c_X3_fails hM1.1 1) (lw_V q1815 q1817 qs33 q83 q1818) hM1.1.1 rfl dX3_drawer_14 1 rfl (by decide +kernel) rfl ⟨Nat.le_of_ble_eq_true rfl, Nat.le_of_ble_eq_true rfl⟩ (Nat.le_of_ble_eq_true rfl) ⟨rfl, rfl⟩ ?_
    rintro _ h2 ⟨rfl, hM2, ht2⟩
    refine go_iret hC hF dX3_drawer_17 rfl rfl ?_
    rw [show oDrw a d w = (1, 0, a) from if_pos c9]
    exact ⟨rfl, hM1.fl hM2 rfl, ht1.tr ht2⟩
  obtain ⟨j, j1, j2, j3⟩ := inB_0 (b := 11) (by omega) c9
  subst j2
  refine go_iload_n hC dX3_drawer_18 rfl ?_
  refine go_iconst hC (0) dX3_drawer_19 (by decide) ?_
  refine go_iconst hC (nI 5) dX3_drawer_20 (by decide) ?_
  refine go_callS0 hC (c_X3_in w 0 (nI 5)) (lw_S q1812 q1813 q83 q1814) dX3_drawer_21 3 rfl (by decide +kernel) rfl ⟨Nat.le_of_ble_eq_true rfl, Nat.le_of_ble_eq_true rfl⟩ (Nat.le_of_ble_eq_true rfl) ⟨rfl, rfl⟩ ?_
  rintro _ _ ⟨rfl, rfl⟩
  refine go_B_eq hC 36 dX3_drawer_24 (by decide) rfl (fun c24 => ?_) (fun c24 => ?_)
  · refine go_aload_n hC dX3_drawer_36 rfl ?_
    refine go_iconst hC (nI 2) dX3_drawer_37 (by decide) ?_
    refine go_callV0 hC (c_X3_fails hM1.1 (nI 2)) (lw_V q1815 q1817 qs33 q83 q1818) hM1.1.1 rfl dX3_drawer_38 1 rfl (by decide +kernel) rfl ⟨Nat.le_of_ble_eq_true rfl, Nat.le_of_ble_eq_true rfl⟩ (Nat.le_of_ble_eq_true rfl) ⟨rfl, rfl⟩ ?_
    rintro _ h2 ⟨rfl, hM2, ht2⟩
    refine go_iret hC hF dX3_drawer_41 rfl rfl ?_
    rw [show oDrw a (nI j) w = (2, 0, a) by unfold oDrw; rw [if_neg (fun q => absurd (q.symm.trans c9) (by decide)), if_pos c24]]
    exact ⟨rfl, hM1.fl hM2 rfl, ht1.tr ht2⟩
  obtain ⟨q, q1, q2, q3⟩ := inB_0 (b := 5) (by omega) c24
  subst q2
  refine go_aload_n hC dX3_drawer_27 rfl ?_
  refine go_iload_n hC dX3_drawer_28 rfl ?_
  refine go_iload_n hC dX3_drawer_29 rfl ?_
  refine go_callV0 hC (c_X3_tellsDrawer hM1.1 hM1.r hw.1 j q (by omega) q1) (lw_V q1973 q1975 qs60 q83 q1976) hM1.1.1 rfl dX3_drawer_30 2 rfl (by decide +kernel) rfl ⟨Nat.le_of_ble_eq_true rfl, Nat.le_of_ble_eq_true rfl⟩ (Nat.le_of_ble_eq_true rfl) ⟨rfl, rfl⟩ ?_
  rintro _ _ ⟨rfl, rfl⟩
  refine go_goto hC 41 dX3_drawer_33 (by decide) ?_
  refine go_iret hC hF dX3_drawer_41 rfl rfl ?_
  rw [show oDrw a (nI j) (nI q) = (0, tel a.1 j q, a) by unfold oDrw; rw [if_neg (fun q => absurd (q.symm.trans c9) (by decide)), if_neg (fun q => absurd (q.symm.trans c24) (by decide)), j3, q3]]
  exact ⟨rfl, hM1.q rfl, ht1⟩
theorem c_X3_item (hQ : MQr G h m a k) (hw : WFA c a) (x w : Int32) : CT G yX3_item cX3_item 4 (some .int) (rmL 12 0 0) [.ref m, .int x, .int w] h (fun z h' => PMo G h m (oItm a x w) z h') noX := by
  obtain ⟨A, f, hs, g, hM, -⟩ := hQ
  refine CT_of [some (.ref m), some (.int x), some (.int w), none] (by decide +kernel) rfl (Nat.le_of_ble_eq_true rfl) (fun X hC hF hE => ?_)
  have hl := hw.1.n
  refine go_aload_n hC dX3_item_0 rfl ?_
  refine go_iconst hC (0) dX3_item_1 (by decide) ?_
  refine go_put hC kX3 hM.1.1 0 q1752 dX3_item_2 (by decide) (Nat.le_of_ble_eq_true rfl) (Or.inl rfl) rfl rfl rfl ?_
  refine hM.st (fun h1 hM1 ht1 => ?_)
  refine go_iload_n hC dX3_item_5 rfl ?_
  refine go_iconst hC (0) dX3_item_6 (by decide) ?_
  refine go_aload_n hC dX3_item_7 rfl ?_
  refine go_get hC kX3 hM1.1.1 1 q1753 dX3_item_8 rfl (by decide) (Or.inl rfl) ?_
  refine go_bipush hC (nI 8) dX3_item_11 (by decide) ?_
  refine go_iald hC 8 hM1.1.2.1 dX3_item_13 (by first | rfl | (simp only [nI_add, pk_mul, nI_1, Int32.add_zero]; done) | (simp only [nI_add, pk_mul, nI_1, Int32.add_zero]; exact congrArg nI (by omega))) (by omega) (by omega) ?_
  rw [show g 1 8 = nI (sC a.1) from hM1.r.2.2.2.1]
  refine go_iconst hC (1) dX3_item_14 (by decide) ?_
  refine go_isub hC dX3_item_15 ?_
  refine go_callS0 hC (c_X3_in x 0 (nI (sC a.1) - 1)) (lw_S q1812 q1813 q83 q1814) dX3_item_16 3 rfl (by decide +kernel) rfl ⟨Nat.le_of_ble_eq_true rfl, Nat.le_of_ble_eq_true rfl⟩ (Nat.le_of_ble_eq_true rfl) ⟨rfl, rfl⟩ ?_
  rintro _ _ ⟨rfl, rfl⟩
  refine go_B_ne hC 28 dX3_item_19 (by decide) rfl (fun c19 => ?_) (fun c19 => ?_)
  rotate_left
  · refine go_aload_n hC dX3_item_22 rfl ?_
    refine go_iconst hC (1) dX3_item_23 (by decide) ?_
    refine go_callV0 hC (c_X3_fails hM1.1 1) (lw_V q1815 q1817 qs33 q83 q1818) hM1.1.1 rfl dX3_item_24 1 rfl (by decide +kernel) rfl ⟨Nat.le_of_ble_eq_true rfl, Nat.le_of_ble_eq_true rfl⟩ (Nat.le_of_ble_eq_true rfl) ⟨rfl, rfl⟩ ?_
    rintro _ h2 ⟨rfl, hM2, ht2⟩
    refine go_iret hC hF dX3_item_27 rfl rfl ?_
    rw [show oItm a x w = (1, 0, a) from if_pos c19]
    exact ⟨rfl, hM1.fl hM2 rfl, ht1.tr ht2⟩
  refine go_iload_n hC dX3_item_28 rfl ?_
  refine go_iconst hC (0) dX3_item_29 (by decide) ?_
  refine go_iconst hC (1) dX3_item_30 (by decide) ?_
  refine go_callS0 hC (c_X3_in w 0 1) (lw_S q1812 q1813 q83 q1814) dX3_item_31 3 rfl (by decide +kernel) rfl ⟨Nat.le_of_ble_eq_true rfl, Nat.le_of_ble_eq_true rfl⟩ (Nat.le_of_ble_eq_true rfl) ⟨rfl, rfl⟩ ?_
  rintro _ _ ⟨rfl, rfl⟩
  refine go_B_ne hC 43 dX3_item_34 (by decide) rfl (fun c34 => ?_) (fun c34 => ?_)
  rotate_left
  · refine go_aload_n hC dX3_item_37 rfl ?_
    refine go_iconst hC (nI 2) dX3_item_38 (by decide) ?_
    refine go_callV0 hC (c_X3_fails hM1.1 (nI 2)) (lw_V q1815 q1817 qs33 q83 q1818) hM1.1.1 rfl dX3_item_39 1 rfl (by decide +kernel) rfl ⟨Nat.le_of_ble_eq_true rfl, Nat.le_of_ble_eq_true rfl⟩ (Nat.le_of_ble_eq_true rfl) ⟨rfl, rfl⟩ ?_
    rintro _ h2 ⟨rfl, hM2, ht2⟩
    refine go_iret hC hF dX3_item_42 rfl rfl ?_
    rw [show oItm a x w = (2, 0, a) by unfold oItm; rw [if_neg (fun q => absurd (q.symm.trans c19) (by decide)), if_pos c34]]
    exact ⟨rfl, hM1.fl hM2 rfl, ht1.tr ht2⟩
  obtain ⟨q, q1, q2, q3⟩ := inB_0 (b := 1) (by omega) c34
  subst q2
  refine go_aload_n hC dX3_item_43 rfl ?_
  refine go_iload_n hC dX3_item_44 rfl ?_
  refine go_callV0 hC (c_X3_placeOfItem hM1.1 hM1.r hw.1 x) (lw_V q1850 q1852 qs40 q83 q1853) hM1.1.1 rfl dX3_item_45 1 rfl (by decide +kernel) rfl ⟨Nat.le_of_ble_eq_true rfl, Nat.le_of_ble_eq_true rfl⟩ (Nat.le_of_ble_eq_true rfl) ⟨rfl, rfl⟩ ?_
  rintro _ _ ⟨rfl, rfl⟩
  have hv : oItm a x (nI q) = (0, itw a.1 x (nI q), a) := by unfold oItm; rw [if_neg (fun q => absurd (q.symm.trans c19) (by decide)), if_neg (fun q => absurd (q.symm.trans c34) (by decide))]
  rcases pos_itm (sI a.1) x with ⟨hp, hi⟩ | ⟨i, y, hp, hi, hy, -⟩
  · rw [hp]
    refine go_istore_n hC dX3_item_48 (by decide) ?_
    refine go_iload_n hC dX3_item_49 rfl ?_
    refine go_iconst hC (-1) dX3_item_50 (by decide) ?_
    refine go_icmp_ne hC 58 dX3_item_51 (by decide) (fun z => absurd (show posI none = -1 from rfl) z) (fun _ => ?_)
    refine go_iconst hC (-1) dX3_item_54 (by decide) ?_
    refine go_goto hC 66 dX3_item_55 (by decide) ?_
    refine go_iret hC hF dX3_item_66 rfl rfl ?_
    rw [hv]
    exact ⟨by unfold itw; rw [hi], hM1.q rfl, ht1⟩
  · rw [hp]
    have hil : i < (sI a.1).length := (List.getElem?_eq_some_iff.mp hy).1
    have hne : ¬ nI i = -1 := fun z => absurd (congrArg Int32.toInt z) (by rw [nI_toInt (by omega)]; show ¬ (i : Int) = -1; omega)
    show Go X G h1 _ _ 48 _ [.int (nI i)]
    obtain ⟨e0, e1, e2⟩ := hM1.r.2.2.2.2.2.2 i y hy
    rcases (show q = 0 ∨ q = 1 by omega) with z | z
    · subst z
      refine go_istore_n hC dX3_item_48 (by decide) ?_
      refine go_iload_n hC dX3_item_49 rfl ?_
      refine go_iconst hC (-1) dX3_item_50 (by decide) ?_
      refine go_icmp_ne hC 58 dX3_item_51 (by decide) (fun _ => ?_) (fun z => absurd z hne)
      refine go_aload_n hC dX3_item_58 rfl ?_
      refine go_iload_n hC dX3_item_59 rfl ?_
      refine go_iconst hC (1) dX3_item_60 (by decide) ?_
      refine go_iload_n hC dX3_item_61 rfl ?_
      refine go_iadd hC dX3_item_62 ?_
      show Go X G h1 _ _ 63 _ [.int (nI 1), .int (nI i), .ref m]
      refine go_callV0 hC (c_X3_of hM1.1 i 1 (by omega) (by omega)) (lw_V q1823 q1825 qs35 q83 q1826) hM1.1.1 rfl dX3_item_63 2 rfl (by decide +kernel) rfl ⟨Nat.le_of_ble_eq_true rfl, Nat.le_of_ble_eq_true rfl⟩ (Nat.le_of_ble_eq_true rfl) ⟨rfl, rfl⟩ ?_
      rintro _ _ ⟨rfl, rfl⟩
      rw [e1]
      refine go_iret hC hF dX3_item_66 rfl rfl ?_
      rw [hv]
      exact ⟨by unfold itw; rw [hi]; rfl, hM1.q rfl, ht1⟩
    · subst z
      refine go_istore_n hC dX3_item_48 (by decide) ?_
      refine go_iload_n hC dX3_item_49 rfl ?_
      refine go_iconst hC (-1) dX3_item_50 (by decide) ?_
      refine go_icmp_ne hC 58 dX3_item_51 (by decide) (fun _ => ?_) (fun z => absurd z hne)
      refine go_aload_n hC dX3_item_58 rfl ?_
      refine go_iload_n hC dX3_item_59 rfl ?_
      refine go_iconst hC (1) dX3_item_60 (by decide) ?_
      refine go_iload_n hC dX3_item_61 rfl ?_
      refine go_iadd hC dX3_item_62 ?_
      show Go X G h1 _ _ 63 _ [.int (nI 2), .int (nI i), .ref m]
      refine go_callV0 hC (c_X3_of hM1.1 i 2 (by omega) (by omega)) (lw_V q1823 q1825 qs35 q83 q1826) hM1.1.1 rfl dX3_item_63 2 rfl (by decide +kernel) rfl ⟨Nat.le_of_ble_eq_true rfl, Nat.le_of_ble_eq_true rfl⟩ (Nat.le_of_ble_eq_true rfl) ⟨rfl, rfl⟩ ?_
      rintro _ _ ⟨rfl, rfl⟩
      rw [e2]
      refine go_iret hC hF dX3_item_66 rfl rfl ?_
      rw [hv]
      exact ⟨by unfold itw; rw [hi]; rfl, hM1.q rfl, ht1⟩
theorem c_X3_count (hQ : MQr G h m a k) (hw : WFA c a) (w : Int32) : CT G yX3_count cX3_count 2 (some .int) (rmL 12 0 0) [.ref m, .int w] h (fun z h' => PMo G h m (oCnt a w) z h') noX := by
  obtain ⟨A, f, hs, g, hM, -⟩ := hQ
  refine CT_of [some (.ref m), some (.int w)] (by decide +kernel) rfl (Nat.le_of_ble_eq_true rfl) (fun X hC hF hE => ?_)
  refine go_aload_n hC dX3_count_0 rfl ?_
  refine go_iconst hC (0) dX3_count_1 (by decide) ?_
  refine go_put hC kX3 hM.1.1 0 q1752 dX3_count_2 (by decide) (Nat.le_of_ble_eq_true rfl) (Or.inl rfl) rfl rfl rfl ?_
  refine hM.st (fun h1 hM1 ht1 => ?_)
  refine go_iload_n hC dX3_count_5 rfl ?_
  refine go_iconst hC (0) dX3_count_6 (by decide) ?_
  refine go_bipush hC (nI 10) dX3_count_7 (by decide) ?_
  refine go_callS0 hC (c_X3_in w 0 (nI 10)) (lw_S q1812 q1813 q83 q1814) dX3_count_9 3 rfl (by decide +kernel) rfl ⟨Nat.le_of_ble_eq_true rfl, Nat.le_of_ble_eq_true rfl⟩ (Nat.le_of_ble_eq_true rfl) ⟨rfl, rfl⟩ ?_
  rintro _ _ ⟨rfl, rfl⟩
  refine go_B_eq hC 23 dX3_count_12 (by decide) rfl (fun c12 => ?_) (fun c12 => ?_)
  · refine go_aload_n hC dX3_count_23 rfl ?_
    refine go_iconst hC (1) dX3_count_24 (by decide) ?_
    refine go_callV0 hC (c_X3_fails hM1.1 1) (lw_V q1815 q1817 qs33 q83 q1818) hM1.1.1 rfl dX3_count_25 1 rfl (by decide +kernel) rfl ⟨Nat.le_of_ble_eq_true rfl, Nat.le_of_ble_eq_true rfl⟩ (Nat.le_of_ble_eq_true rfl) ⟨rfl, rfl⟩ ?_
    rintro _ h2 ⟨rfl, hM2, ht2⟩
    refine go_iret hC hF dX3_count_28 rfl rfl ?_
    rw [show oCnt a w = (1, 0, a) from if_pos c12]
    exact ⟨rfl, hM1.fl hM2 rfl, ht1.tr ht2⟩
  obtain ⟨j, j1, j2, j3⟩ := inB_0 (b := 10) (by omega) c12
  subst j2
  refine go_aload_n hC dX3_count_15 rfl ?_
  refine go_iload_n hC dX3_count_16 rfl ?_
  refine go_callV0 hC (c_X3_counts hM1.1 hM1.r hw.1 a.2.1.length j hM1.2.2.1 j1) (lw_V q1989 q1991 qs62 q83 q1992) hM1.1.1 rfl dX3_count_17 1 rfl (by decide +kernel) rfl ⟨Nat.le_of_ble_eq_true rfl, Nat.le_of_ble_eq_true rfl⟩ (Nat.le_of_ble_eq_true rfl) ⟨rfl, rfl⟩ ?_
  rintro _ _ ⟨rfl, rfl⟩
  refine go_goto hC 28 dX3_count_20 (by decide) ?_
  refine go_iret hC hF dX3_count_28 rfl rfl ?_
  rw [show oCnt a (nI j) = (0, cnt a.1 a.2.1.length j, a) by unfold oCnt; rw [if_neg (fun q => absurd (q.symm.trans c12) (by decide)), j3]]
  exact ⟨rfl, hM1.q rfl, ht1⟩
theorem c_X3_setting (hQ : MQr G h m a k) (w : Int32) : CT G yX3_setting cX3_setting 2 (some .int) (rmL 12 0 0) [.ref m, .int w] h (fun z h' => PMo G h m (oStg a w) z h') noX := by
  obtain ⟨A, f, hs, g, hM, -⟩ := hQ
  refine CT_of [some (.ref m), some (.int w)] (by decide +kernel) rfl (Nat.le_of_ble_eq_true rfl) (fun X hC hF hE => ?_)
  refine go_aload_n hC dX3_setting_0 rfl ?_
  refine go_iconst hC (0) dX3_setting_1 (by decide) ?_
  refine go_put hC kX3 hM.1.1 0 q1752 dX3_setting_2 (by decide) (Nat.le_of_ble_eq_true rfl) (Or.inl rfl) rfl rfl rfl ?_
  refine hM.st (fun h1 hM1 ht1 => ?_)
  refine go_iload_n hC dX3_setting_5 rfl ?_
  refine go_iconst hC (0) dX3_setting_6 (by decide) ?_
  refine go_iconst hC (nI 2) dX3_setting_7 (by decide) ?_
  refine go_callS0 hC (c_X3_in w 0 (nI 2)) (lw_S q1812 q1813 q83 q1814) dX3_setting_8 3 rfl (by decide +kernel) rfl ⟨Nat.le_of_ble_eq_true rfl, Nat.le_of_ble_eq_true rfl⟩ (Nat.le_of_ble_eq_true rfl) ⟨rfl, rfl⟩ ?_
  rintro _ _ ⟨rfl, rfl⟩
  refine go_B_eq hC 23 dX3_setting_11 (by decide) rfl (fun c11 => ?_) (fun c11 => ?_)
  · refine go_aload_n hC dX3_setting_23 rfl ?_
    refine go_iconst hC (1) dX3_setting_24 (by decide) ?_
    refine go_callV0 hC (c_X3_fails hM1.1 1) (lw_V q1815 q1817 qs33 q83 q1818) hM1.1.1 rfl dX3_setting_25 1 rfl (by decide +kernel) rfl ⟨Nat.le_of_ble_eq_true rfl, Nat.le_of_ble_eq_true rfl⟩ (Nat.le_of_ble_eq_true rfl) ⟨rfl, rfl⟩ ?_
    rintro _ h2 ⟨rfl, hM2, ht2⟩
    refine go_iret hC hF dX3_setting_28 rfl rfl ?_
    rw [show oStg a w = (1, 0, a) from if_pos c11]
    exact ⟨rfl, hM1.fl hM2 rfl, ht1.tr ht2⟩
  obtain ⟨j, j1, j2, j3⟩ := inB_0 (b := 2) (by omega) c11
  subst j2
  refine go_aload_n hC dX3_setting_14 rfl ?_
  refine go_get hC kX3 hM1.1.1 1 q1753 dX3_setting_15 rfl (by decide) (Or.inl rfl) ?_
  refine go_iload_n hC dX3_setting_18 rfl ?_
  refine go_iald hC j hM1.1.2.1 dX3_setting_19 (by first | rfl | (simp only [nI_add, pk_mul, nI_1, Int32.add_zero]; done) | (simp only [nI_add, pk_mul, nI_1, Int32.add_zero]; exact congrArg nI (by omega))) (by omega) (by omega) ?_
  refine go_goto hC 28 dX3_setting_20 (by decide) ?_
  refine go_iret hC hF dX3_setting_28 rfl rfl ?_
  rw [show oStg a (nI j) = (0, sN a.1 j, a) by unfold oStg; rw [if_neg (fun q => absurd (q.symm.trans c11) (by decide)), j3]]
  exact ⟨congrArg some (congrArg Value.int (hM1.r.1 j (by omega))), hM1.q rfl, ht1⟩
theorem c_X3_refusal (hQ : MQr G h m a k) (hw : WFA c a) (x : Int32) : CT G yX3_refusal cX3_refusal 2 (some .int) (rmL 12 0 0) [.ref m, .int x] h (fun z h' => PMo G h m (oRef a x) z h') noX := by
  obtain ⟨A, f, hs, g, hM, -⟩ := hQ
  refine CT_of [some (.ref m), some (.int x)] (by decide +kernel) rfl (Nat.le_of_ble_eq_true rfl) (fun X hC hF hE => ?_)
  refine go_aload_n hC dX3_refusal_0 rfl ?_
  refine go_iconst hC (0) dX3_refusal_1 (by decide) ?_
  refine go_put hC kX3 hM.1.1 0 q1752 dX3_refusal_2 (by decide) (Nat.le_of_ble_eq_true rfl) (Or.inl rfl) rfl rfl rfl ?_
  refine hM.st (fun h1 hM1 ht1 => ?_)
  refine go_aload_n hC dX3_refusal_5 rfl ?_
  refine go_iload_n hC dX3_refusal_6 rfl ?_
  refine go_callV0 hC (c_X3_reason hM1.1 hM1.r hw.1 x) (lw_V q1858 q1860 qs41 q83 q1861) hM1.1.1 rfl dX3_refusal_7 1 rfl (by decide +kernel) rfl ⟨Nat.le_of_ble_eq_true rfl, Nat.le_of_ble_eq_true rfl⟩ (Nat.le_of_ble_eq_true rfl) ⟨rfl, rfl⟩ ?_
  rintro _ _ ⟨rfl, rfl⟩
  refine go_iret hC hF dX3_refusal_10 rfl rfl ?_
  exact ⟨rfl, hM1.q rfl, ht1⟩
theorem c_X3_way (hQ : MQr G h m a k) (hw : WFA c a) (d : Int32) : CT G yX3_way cX3_way 2 (some .int) (rmL 12 0 0) [.ref m, .int d] h (fun z h' => PMo G h m (oWay a d) z h') noX := by
  obtain ⟨A, f, hs, g, hM, -⟩ := hQ
  refine CT_of [some (.ref m), some (.int d)] (by decide +kernel) rfl (Nat.le_of_ble_eq_true rfl) (fun X hC hF hE => ?_)
  refine go_aload_n hC dX3_way_0 rfl ?_
  refine go_iconst hC (0) dX3_way_1 (by decide) ?_
  refine go_put hC kX3 hM.1.1 0 q1752 dX3_way_2 (by decide) (Nat.le_of_ble_eq_true rfl) (Or.inl rfl) rfl rfl rfl ?_
  refine hM.st (fun h1 hM1 ht1 => ?_)
  refine go_iload_n hC dX3_way_5 rfl ?_
  refine go_callS0 hC (c_X3_isDrawer d) (lw_S q1809 q1810 q83 q1811) dX3_way_6 1 rfl (by decide +kernel) rfl ⟨Nat.le_of_ble_eq_true rfl, Nat.le_of_ble_eq_true rfl⟩ (Nat.le_of_ble_eq_true rfl) ⟨rfl, rfl⟩ ?_
  rintro _ _ ⟨rfl, rfl⟩
  refine go_B_eq hC 20 dX3_way_9 (by decide) rfl (fun c9 => ?_) (fun c9 => ?_)
  · refine go_aload_n hC dX3_way_20 rfl ?_
    refine go_iconst hC (1) dX3_way_21 (by decide) ?_
    refine go_callV0 hC (c_X3_fails hM1.1 1) (lw_V q1815 q1817 qs33 q83 q1818) hM1.1.1 rfl dX3_way_22 1 rfl (by decide +kernel) rfl ⟨Nat.le_of_ble_eq_true rfl, Nat.le_of_ble_eq_true rfl⟩ (Nat.le_of_ble_eq_true rfl) ⟨rfl, rfl⟩ ?_
    rintro _ h2 ⟨rfl, hM2, ht2⟩
    refine go_iret hC hF dX3_way_25 rfl rfl ?_
    rw [show oWay a d = (1, 0, a) from if_pos c9]
    exact ⟨rfl, hM1.fl hM2 rfl, ht1.tr ht2⟩
  obtain ⟨j, j1, j2, j3⟩ := inB_0 (b := 11) (by omega) c9
  subst j2
  refine go_aload_n hC dX3_way_12 rfl ?_
  refine go_iload_n hC dX3_way_13 rfl ?_
  refine go_callV0 hC (c_X3_wayTo hM1.1 hM1.r hw.1 j (by omega)) (lw_V q1862 q1864 qs42 q83 q1865) hM1.1.1 rfl dX3_way_14 1 rfl (by decide +kernel) rfl ⟨Nat.le_of_ble_eq_true rfl, Nat.le_of_ble_eq_true rfl⟩ (Nat.le_of_ble_eq_true rfl) ⟨rfl, rfl⟩ ?_
  rintro _ _ ⟨rfl, rfl⟩
  refine go_goto hC 25 dX3_way_17 (by decide) ?_
  refine go_iret hC hF dX3_way_25 rfl rfl ?_
  rw [show oWay a (nI j) = (0, way a.1 j, a) by unfold oWay; rw [if_neg (fun q => absurd (q.symm.trans c9) (by decide)), j3]]
  exact ⟨rfl, hM1.q rfl, ht1⟩
theorem c_X3_ifPut (hQ : MQr G h m a k) (hw : WFA c a) (d v : Int32) : CT G yX3_ifPut cX3_ifPut 3 (some .int) (rmL 12 0 0) [.ref m, .int d, .int v] h (fun z h' => PMo G h m (oIfp a d v) z h') noX := by
  obtain ⟨A, f, hs, g, hM, -⟩ := hQ
  refine CT_of [some (.ref m), some (.int d), some (.int v)] (by decide +kernel) rfl (Nat.le_of_ble_eq_true rfl) (fun X hC hF hE => ?_)
  refine go_aload_n hC dX3_ifPut_0 rfl ?_
  refine go_iconst hC (0) dX3_ifPut_1 (by decide) ?_
  refine go_put hC kX3 hM.1.1 0 q1752 dX3_ifPut_2 (by decide) (Nat.le_of_ble_eq_true rfl) (Or.inl rfl) rfl rfl rfl ?_
  refine hM.st (fun h1 hM1 ht1 => ?_)
  refine go_iload_n hC dX3_ifPut_5 rfl ?_
  refine go_callS0 hC (c_X3_isDrawer d) (lw_S q1809 q1810 q83 q1811) dX3_ifPut_6 1 rfl (by decide +kernel) rfl ⟨Nat.le_of_ble_eq_true rfl, Nat.le_of_ble_eq_true rfl⟩ (Nat.le_of_ble_eq_true rfl) ⟨rfl, rfl⟩ ?_
  rintro _ _ ⟨rfl, rfl⟩
  refine go_B_ne hC 18 dX3_ifPut_9 (by decide) rfl (fun c9 => ?_) (fun c9 => ?_)
  rotate_left
  · refine go_aload_n hC dX3_ifPut_12 rfl ?_
    refine go_iconst hC (1) dX3_ifPut_13 (by decide) ?_
    refine go_callV0 hC (c_X3_fails hM1.1 1) (lw_V q1815 q1817 qs33 q83 q1818) hM1.1.1 rfl dX3_ifPut_14 1 rfl (by decide +kernel) rfl ⟨Nat.le_of_ble_eq_true rfl, Nat.le_of_ble_eq_true rfl⟩ (Nat.le_of_ble_eq_true rfl) ⟨rfl, rfl⟩ ?_
    rintro _ h2 ⟨rfl, hM2, ht2⟩
    refine go_iret hC hF dX3_ifPut_17 rfl rfl ?_
    rw [show oIfp a d v = (1, 0, a) from if_pos c9]
    exact ⟨rfl, hM1.fl hM2 rfl, ht1.tr ht2⟩
  obtain ⟨j, j1, j2, j3⟩ := inB_0 (b := 11) (by omega) c9
  subst j2
  refine go_iload_n hC dX3_ifPut_18 rfl ?_
  refine go_iconst hC (1) dX3_ifPut_19 (by decide) ?_
  refine go_bipush hC (nI 20) dX3_ifPut_20 (by decide) ?_
  refine go_callS0 hC (c_X3_in v 1 (nI 20)) (lw_S q1812 q1813 q83 q1814) dX3_ifPut_22 3 rfl (by decide +kernel) rfl ⟨Nat.le_of_ble_eq_true rfl, Nat.le_of_ble_eq_true rfl⟩ (Nat.le_of_ble_eq_true rfl) ⟨rfl, rfl⟩ ?_
  rintro _ _ ⟨rfl, rfl⟩
  refine go_B_eq hC 37 dX3_ifPut_25 (by decide) rfl (fun c25 => ?_) (fun c25 => ?_)
  · refine go_aload_n hC dX3_ifPut_37 rfl ?_
    refine go_iconst hC (nI 2) dX3_ifPut_38 (by decide) ?_
    refine go_callV0 hC (c_X3_fails hM1.1 (nI 2)) (lw_V q1815 q1817 qs33 q83 q1818) hM1.1.1 rfl dX3_ifPut_39 1 rfl (by decide +kernel) rfl ⟨Nat.le_of_ble_eq_true rfl, Nat.le_of_ble_eq_true rfl⟩ (Nat.le_of_ble_eq_true rfl) ⟨rfl, rfl⟩ ?_
    rintro _ h2 ⟨rfl, hM2, ht2⟩
    refine go_iret hC hF dX3_ifPut_42 rfl rfl ?_
    rw [show oIfp a (nI j) v = (2, 0, a) by unfold oIfp; rw [if_neg (fun q => absurd (q.symm.trans c9) (by decide)), if_pos c25]]
    exact ⟨rfl, hM1.fl hM2 rfl, ht1.tr ht2⟩
  refine go_aload_n hC dX3_ifPut_28 rfl ?_
  refine go_iload_n hC dX3_ifPut_29 rfl ?_
  refine go_iload_n hC dX3_ifPut_30 rfl ?_
  refine go_callV0 hC (c_X3_greatestWith hM1.1 hM1.r hw.1 j (by omega) v) (lw_V q2021 q2023 qs66 q83 q2024) hM1.1.1 rfl dX3_ifPut_31 2 rfl (by decide +kernel) rfl ⟨Nat.le_of_ble_eq_true rfl, Nat.le_of_ble_eq_true rfl⟩ (Nat.le_of_ble_eq_true rfl) ⟨rfl, rfl⟩ ?_
  rintro _ _ ⟨rfl, rfl⟩
  refine go_goto hC 42 dX3_ifPut_34 (by decide) ?_
  refine go_iret hC hF dX3_ifPut_42 rfl rfl ?_
  rw [show oIfp a (nI j) v = (0, gw (sI a.1) j v, a) by unfold oIfp; rw [if_neg (fun q => absurd (q.symm.trans c9) (by decide)), if_neg (fun q => absurd (q.symm.trans c25) (by decide)), j3]]
  exact ⟨rfl, hM1.q rfl, ht1⟩
theorem c_X3_bestDrawer (hQ : MQr G h m a k) (hw : WFA c a) (v : Int32) : CT G yX3_bestDrawer cX3_bestDrawer 2 (some .int) (rmL 12 0 0) [.ref m, .int v] h (fun z h' => PMo G h m (oBst a v) z h') noX := by
  obtain ⟨A, f, hs, g, hM, -⟩ := hQ
  refine CT_of [some (.ref m), some (.int v)] (by decide +kernel) rfl (Nat.le_of_ble_eq_true rfl) (fun X hC hF hE => ?_)
  refine go_aload_n hC dX3_bestDrawer_0 rfl ?_
  refine go_iconst hC (0) dX3_bestDrawer_1 (by decide) ?_
  refine go_put hC kX3 hM.1.1 0 q1752 dX3_bestDrawer_2 (by decide) (Nat.le_of_ble_eq_true rfl) (Or.inl rfl) rfl rfl rfl ?_
  refine hM.st (fun h1 hM1 ht1 => ?_)
  refine go_iload_n hC dX3_bestDrawer_5 rfl ?_
  refine go_iconst hC (1) dX3_bestDrawer_6 (by decide) ?_
  refine go_bipush hC (nI 20) dX3_bestDrawer_7 (by decide) ?_
  refine go_callS0 hC (c_X3_in v 1 (nI 20)) (lw_S q1812 q1813 q83 q1814) dX3_bestDrawer_9 3 rfl (by decide +kernel) rfl ⟨Nat.le_of_ble_eq_true rfl, Nat.le_of_ble_eq_true rfl⟩ (Nat.le_of_ble_eq_true rfl) ⟨rfl, rfl⟩ ?_
  rintro _ _ ⟨rfl, rfl⟩
  refine go_B_eq hC 23 dX3_bestDrawer_12 (by decide) rfl (fun c12 => ?_) (fun c12 => ?_)
  · refine go_aload_n hC dX3_bestDrawer_23 rfl ?_
    refine go_iconst hC (1) dX3_bestDrawer_24 (by decide) ?_
    refine go_callV0 hC (c_X3_fails hM1.1 1) (lw_V q1815 q1817 qs33 q83 q1818) hM1.1.1 rfl dX3_bestDrawer_25 1 rfl (by decide +kernel) rfl ⟨Nat.le_of_ble_eq_true rfl, Nat.le_of_ble_eq_true rfl⟩ (Nat.le_of_ble_eq_true rfl) ⟨rfl, rfl⟩ ?_
    rintro _ h2 ⟨rfl, hM2, ht2⟩
    refine go_iret hC hF dX3_bestDrawer_28 rfl rfl ?_
    rw [show oBst a v = (1, 0, a) from if_pos c12]
    exact ⟨rfl, hM1.fl hM2 rfl, ht1.tr ht2⟩
  refine go_aload_n hC dX3_bestDrawer_15 rfl ?_
  refine go_iload_n hC dX3_bestDrawer_16 rfl ?_
  refine go_callV0 hC (c_X3_drawerFor hM1.1 hM1.r hw.1 v) (lw_V q2029 q2031 qs67 q83 q2032) hM1.1.1 rfl dX3_bestDrawer_17 1 rfl (by decide +kernel) rfl ⟨Nat.le_of_ble_eq_true rfl, Nat.le_of_ble_eq_true rfl⟩ (Nat.le_of_ble_eq_true rfl) ⟨rfl, rfl⟩ ?_
  rintro _ _ ⟨rfl, rfl⟩
  refine go_goto hC 28 dX3_bestDrawer_20 (by decide) ?_
  refine go_iret hC hF dX3_bestDrawer_28 rfl rfl ?_
  rw [show oBst a v = (0, posI (bst a.1 v), a) from if_neg (fun q => absurd (q.symm.trans c12) (by decide))]
  exact ⟨rfl, hM1.q rfl, ht1⟩
theorem c_X3_picked (hM : MM G h m A f hs g a) (hw : WFA c a) (hc : c ≤ 64) (r w : Nat) (hw3 : w ≤ 3) : CT G yX3_picked cX3_picked 6 (some .int) (rmL 10 0 0) [.ref m, .int (nI r), .int (nI w)] h (fun z h' => z = some (.int (pkd a.1 a.2.2 (nI r) w)) ∧ (∃ f' g', MM G h' m A f' hs g' a ∧ f' 0 = f 0) ∧ Mto h h' m) noX := by
  refine CT_of [some (.ref m), some (.int (nI r)), some (.int (nI w)), none, none, none] (by decide +kernel) rfl (Nat.le_of_ble_eq_true rfl) (fun X hC hF hE => ?_)
  refine go_aload_n hC dX3_picked_0 rfl ?_
  refine go_callV0 hC (c_X3_readsAll hM.1 a.2.2 hw.2.2.2 hM.2.2.2.2.2 hM.2.2.2.2.1) (lw_V q1913 q1915 qs48 q83 q1916) hM.1.1 rfl dX3_picked_1 0 rfl (by decide +kernel) rfl ⟨Nat.le_of_ble_eq_true rfl, Nat.le_of_ble_eq_true rfl⟩ (Nat.le_of_ble_eq_true rfl) ⟨rfl, rfl⟩ ?_
  rintro _ h2 ⟨rfl, f2, s9, hM2, ht2, e8, e7, e10, e9, e0, e4, e6⟩
  refine go_aload_n hC dX3_picked_4 rfl ?_
  refine go_get hC kX3 hM2.1 8 q1760 dX3_picked_5 rfl (by decide) (Or.inl rfl) ?_
  refine go_B_ne hC 13 dX3_picked_8 (by decide) e8 (fun c8 => ?_) (fun c8 => ?_)
  rotate_left
  · refine go_iconst hC (-1) dX3_picked_11 (by decide) ?_
    refine go_iret hC hF dX3_picked_12 rfl rfl ?_
    exact ⟨by unfold pkd; rw [if_pos c8], ⟨f2, _, hM.gg hM2 e4 e6 hM.r rfl rfl, e0⟩, ht2⟩
  have hr2 : Row (va_up g 9 s9 1) a.1 := hM.r
  have back : ∀ (v z : Int32) (h3 : PH) (g3 : Nat → Nat → Int32), MRep G h3 m A f2 hs g3 → Mto h h3 m → Row (g3 2) a.1 → g3 3 = g 3 → g3 5 = g 5 → v = pkd a.1 a.2.2 (nI r) w → Go X G h3 0 0 93 [some (.ref m), some (.int (nI r)), some (.int (nI w)), some (.int z), none, none] [.int v] := by
    intro v z h3 g3 hM3 ht3 hr3 k3 k5 hv
    have loop : ∀ (i : Nat) (s : Nat → Int32), i ≤ 142 → (∀ j, j < i → s j = g3 2 j) → Go X G (hS G h3 m A s) 0 0 98 [some (.ref m), some (.int (nI r)), some (.int (nI w)), some (.int z), some (.int v), some (.int (nI i))] [] := by
      refine lpB (fun i _ => 142 - i) (fun i s ih hi hz => ?_)
      have hM4 := hM3.s s
      refine go_iload hC dX3_picked_98 rfl ?_
      refine go_sipush hC (nI 142) dX3_picked_100 (by decide) ?_
      refine go_N_ge hC 126 dX3_picked_103 (by decide) rfl rfl (by omega) (by omega) (fun c103 => ?_) (fun c103 => ?_)
      · refine go_iload hC dX3_picked_126 rfl ?_
        refine go_iret hC hF dX3_picked_128 rfl rfl ?_
        exact ⟨by rw [hv], ⟨f2, _, hM.gg hM4 e4 e6 (Row_cg hr3 hw.1.n (fun j hj => hz j (by omega))) k3 k5, e0⟩, ht3.st hM3.2.1⟩
      · refine go_aload_n hC dX3_picked_106 rfl ?_
        refine go_get hC kX3 hM4.1 1 q1753 dX3_picked_107 rfl (by decide) (Or.inl rfl) ?_
        refine go_iload hC dX3_picked_110 rfl ?_
        refine go_aload_n hC dX3_picked_112 rfl ?_
        refine go_get hC kX3 hM4.1 2 q1754 dX3_picked_113 rfl (by decide) (Or.inl rfl) ?_
        refine go_iload hC dX3_picked_116 rfl ?_
        refine go_iald hC i hM4.2.2.1 dX3_picked_118 (by first | rfl | (simp only [nI_add, pk_mul, nI_1, Int32.add_zero]; done) | (simp only [nI_add, pk_mul, nI_1, Int32.add_zero]; exact congrArg nI (by omega))) (by omega) (by omega) ?_
        refine go_iast hC i hM4.2.1 dX3_picked_119 (by first | rfl | (simp only [nI_add, pk_mul, nI_1, Int32.add_zero]; done) | (simp only [nI_add, pk_mul, nI_1, Int32.add_zero]; exact congrArg nI (by omega))) (by omega) (by omega) ?_
        rw [hu_hu]
        refine go_iinc hC (v := nI (i + 1)) dX3_picked_120 rfl (nI_1 _) (by decide) ?_
        refine go_goto hC 98 dX3_picked_123 (by decide) ?_
        refine ih (i + 1) _ (by omega) (by omega) (fun j hj => ?_)
        by_cases q : j = i
        · rw [q, pk_us]; rfl
        · rw [pk_un q]; exact hz j (by omega)
    have e : hS G h3 m A (g3 1) = h3 := hu_id hM3.2.1
    refine go_istore hC dX3_picked_93 (by decide) ?_
    refine go_iconst hC (0) dX3_picked_95 (by decide) ?_
    refine go_istore hC dX3_picked_96 (by decide) ?_
    rw [← e]
    exact loop 0 (g3 1) (Nat.zero_le _) (fun j hj => absurd hj (Nat.not_lt_zero _))
  have loop : ∀ (i : Nat) (s : Nat → Int32), i ≤ 142 → (∀ j, j < i → s j = g 1 j) → Go X G (hu h2 (A 2) (m, 2) (ia G 142 s)) 0 0 15 [some (.ref m), some (.int (nI r)), some (.int (nI w)), some (.int (nI i)), none, none] [] := by
    refine lpB (fun i _ => 142 - i) (fun i s ih hi hz => ?_)
    have hM3 := hM2.u2 s
    refine go_iload_n hC dX3_picked_15 rfl ?_
    refine go_sipush hC (nI 142) dX3_picked_16 (by decide) ?_
    refine go_N_ge hC 40 dX3_picked_19 (by decide) rfl rfl (by omega) (by omega) (fun c19 => ?_) (fun c19 => ?_)
    · have ht3 : Mto h (hu h2 (A 2) (m, 2) (ia G 142 s)) m := ht2.st hM2.2.2.1
      have hr3 : Row s a.1 := Row_cg hM.r hw.1.n (fun j hj => hz j (by omega))
      have hb : Bat f2 (va_up (va_up g 9 s9) 2 s) (rdA a.2.2).2.2 := ⟨e9, e10, (rdA_ok a.2.2).2.1⟩
      generalize hu h2 (A 2) (m, 2) (ia G 142 s) = h3 at hM3 ht3
      have hwp := WF_pbat hw.1 (rdA a.2.2).2.2 (nI r)
      refine go_aload_n hC dX3_picked_40 rfl ?_
      refine go_iload_n hC dX3_picked_41 rfl ?_
      refine go_callV0 hC (c_X3_picksBatch hM3 hM.r hw.1 (by omega) (rdA a.2.2).2.2 hb (nI r)) (lw_V q1933 q1935 qs52 q83 q1936) hM3.1 rfl dX3_picked_42 1 rfl (by decide +kernel) rfl ⟨Nat.le_of_ble_eq_true rfl, Nat.le_of_ble_eq_true rfl⟩ (Nat.le_of_ble_eq_true rfl) ⟨rfl, rfl⟩ ?_
      rintro _ h7 ⟨rfl, g7, hM7, ht7, hr7, k72, k73, k75, k79⟩
      refine go_istore_n hC dX3_picked_45 (by decide) ?_
      have hr72 : Row (g7 2) a.1 := by rw [k72]; exact hr3
      have hpk : pkd a.1 a.2.2 (nI r) w = pkT a.1 (pbat a.1 (rdA a.2.2).2.2 (nI r)) w := if_neg (fun q => absurd (q.symm.trans c8) (by decide))
      have fin := fun v hv => back v (nI (pbat a.1 (rdA a.2.2).2.2 (nI r)).1) h7 g7 hM7 (ht3.tr ht7) hr72 k73 k75 (by rw [hpk]; exact hv)
      rcases (show w = 0 ∨ w = 1 ∨ w = 2 ∨ w = 3 by omega) with q | q | q | q
      · subst q
        refine go_iload_n hC dX3_picked_46 rfl ?_
        refine go_if_ne hC 54 dX3_picked_47 (by decide) (fun z => absurd nI_0 z) (fun _ => ?_)
        refine go_iload_n hC dX3_picked_50 rfl ?_
        refine go_goto hC 93 dX3_picked_51 (by decide) ?_
        exact fin _ rfl
      · subst q
        refine go_iload_n hC dX3_picked_46 rfl ?_
        refine go_if_ne hC 54 dX3_picked_47 (by decide) (fun _ => ?_) (fun z => absurd z (show ¬ nI 1 = 0 by decide))
        refine go_iload_n hC dX3_picked_54 rfl ?_
        refine go_iconst hC (1) dX3_picked_55 (by decide) ?_
        refine go_N_ne hC (b := 1) 75 dX3_picked_56 (by decide) rfl rfl (by omega) (by omega) (fun z => absurd z (fun z => z rfl)) (fun c56 => ?_)
        refine go_aload_n hC dX3_picked_59 rfl ?_
        refine go_get hC kX3 hM7.1 1 q1753 dX3_picked_60 rfl (by decide) (Or.inl rfl) ?_
        refine go_iconst hC (nI 4) dX3_picked_63 (by decide) ?_
        refine go_iald hC 4 hM7.2.1 dX3_picked_64 (by first | rfl | (simp only [nI_add, pk_mul, nI_1, Int32.add_zero]; done) | (simp only [nI_add, pk_mul, nI_1, Int32.add_zero]; exact congrArg nI (by omega))) (by omega) (by omega) ?_
        rw [hr7.2.2.1 4 (by omega) (by omega)]
        refine go_aload_n hC dX3_picked_65 rfl ?_
        refine go_get hC kX3 hM7.1 2 q1754 dX3_picked_66 rfl (by decide) (Or.inl rfl) ?_
        refine go_iconst hC (nI 4) dX3_picked_69 (by decide) ?_
        refine go_iald hC 4 hM7.2.2.1 dX3_picked_70 (by first | rfl | (simp only [nI_add, pk_mul, nI_1, Int32.add_zero]; done) | (simp only [nI_add, pk_mul, nI_1, Int32.add_zero]; exact congrArg nI (by omega))) (by omega) (by omega) ?_
        rw [hr72.2.2.1 4 (by omega) (by omega)]
        refine go_isub hC dX3_picked_71 ?_
        refine go_goto hC 93 dX3_picked_72 (by decide) ?_
        exact fin _ rfl
      · subst q
        refine go_iload_n hC dX3_picked_46 rfl ?_
        refine go_if_ne hC 54 dX3_picked_47 (by decide) (fun _ => ?_) (fun z => absurd z (show ¬ nI 2 = 0 by decide))
        refine go_iload_n hC dX3_picked_54 rfl ?_
        refine go_iconst hC (1) dX3_picked_55 (by decide) ?_
        refine go_N_ne hC (b := 1) 75 dX3_picked_56 (by decide) rfl rfl (by omega) (by omega) (fun c56 => ?_) (fun z => absurd z (by decide))
        refine go_iload_n hC dX3_picked_75 rfl ?_
        refine go_iconst hC (nI 2) dX3_picked_76 (by decide) ?_
        refine go_N_ne hC 89 dX3_picked_77 (by decide) rfl rfl (by omega) (by omega) (fun z => absurd z (fun z => z rfl)) (fun c77 => ?_)
        refine go_aload_n hC dX3_picked_80 rfl ?_
        refine go_get hC kX3 hM7.1 1 q1753 dX3_picked_81 rfl (by decide) (Or.inl rfl) ?_
        refine go_iconst hC (nI 3) dX3_picked_84 (by decide) ?_
        refine go_iald hC 3 hM7.2.1 dX3_picked_85 (by first | rfl | (simp only [nI_add, pk_mul, nI_1, Int32.add_zero]; done) | (simp only [nI_add, pk_mul, nI_1, Int32.add_zero]; exact congrArg nI (by omega))) (by omega) (by omega) ?_
        rw [hr7.2.1]
        refine go_goto hC 93 dX3_picked_86 (by decide) ?_
        exact fin _ rfl
      · subst q
        refine go_iload_n hC dX3_picked_46 rfl ?_
        refine go_if_ne hC 54 dX3_picked_47 (by decide) (fun _ => ?_) (fun z => absurd z (show ¬ nI 3 = 0 by decide))
        refine go_iload_n hC dX3_picked_54 rfl ?_
        refine go_iconst hC (1) dX3_picked_55 (by decide) ?_
        refine go_N_ne hC (b := 1) 75 dX3_picked_56 (by decide) rfl rfl (by omega) (by omega) (fun c56 => ?_) (fun z => absurd z (by decide))
        refine go_iload_n hC dX3_picked_75 rfl ?_
        refine go_iconst hC (nI 2) dX3_picked_76 (by decide) ?_
        refine go_N_ne hC 89 dX3_picked_77 (by decide) rfl rfl (by omega) (by omega) (fun c77 => ?_) (fun z => absurd z (by decide))
        refine go_aload_n hC dX3_picked_89 rfl ?_
        refine go_callV0 hC (c_X3_greatest hM7 hr7 hwp) (lw_V q1997 q1999 qs64 q83 q2000) hM7.1 rfl dX3_picked_90 0 rfl (by decide +kernel) rfl ⟨Nat.le_of_ble_eq_true rfl, Nat.le_of_ble_eq_true rfl⟩ (Nat.le_of_ble_eq_true rfl) ⟨rfl, rfl⟩ ?_
        rintro _ _ ⟨rfl, rfl⟩
        exact fin _ rfl
    · refine go_aload_n hC dX3_picked_22 rfl ?_
      refine go_get hC kX3 hM3.1 2 q1754 dX3_picked_23 rfl (by decide) (Or.inl rfl) ?_
      refine go_iload_n hC dX3_picked_26 rfl ?_
      refine go_aload_n hC dX3_picked_27 rfl ?_
      refine go_get hC kX3 hM3.1 1 q1753 dX3_picked_28 rfl (by decide) (Or.inl rfl) ?_
      refine go_iload_n hC dX3_picked_31 rfl ?_
      refine go_iald hC i hM3.2.1 dX3_picked_32 (by first | rfl | (simp only [nI_add, pk_mul, nI_1, Int32.add_zero]; done) | (simp only [nI_add, pk_mul, nI_1, Int32.add_zero]; exact congrArg nI (by omega))) (by omega) (by omega) ?_
      refine go_iast hC i hM3.2.2.1 dX3_picked_33 (by first | rfl | (simp only [nI_add, pk_mul, nI_1, Int32.add_zero]; done) | (simp only [nI_add, pk_mul, nI_1, Int32.add_zero]; exact congrArg nI (by omega))) (by omega) (by omega) ?_
      rw [hu_hu]
      refine go_iinc hC (v := nI (i + 1)) dX3_picked_34 rfl (nI_1 _) (by decide) ?_
      refine go_goto hC 15 dX3_picked_37 (by decide) ?_
      refine ih (i + 1) _ (by omega) (by omega) (fun j hj => ?_)
      by_cases q : j = i
      · rw [q, pk_us]; rfl
      · rw [pk_un q]; exact hz j (by omega)
  have e : hu h2 (A 2) (m, 2) (ia G 142 (g 2)) = h2 := hu_id hM2.2.2.1
  refine go_iconst hC (0) dX3_picked_13 (by decide) ?_
  refine go_istore_n hC dX3_picked_14 (by decide) ?_
  rw [← e]
  exact loop 0 (g 2) (Nat.zero_le _) (fun j hj => absurd hj (Nat.not_lt_zero _))
theorem c_X3_ifPicked (hQ : MQr G h m a k) (hw : WFA c a) (hc : c ≤ 64) (r w : Int32) : CT G yX3_ifPicked cX3_ifPicked 3 (some .int) (rmL 12 0 0) [.ref m, .int r, .int w] h (fun z h' => PMo G h m (oIpk a r w) z h') noX := by
  obtain ⟨A, f, hs, g, hM, -⟩ := hQ
  refine CT_of [some (.ref m), some (.int r), some (.int w)] (by decide +kernel) rfl (Nat.le_of_ble_eq_true rfl) (fun X hC hF hE => ?_)
  refine go_aload_n hC dX3_ifPicked_0 rfl ?_
  refine go_iconst hC (0) dX3_ifPicked_1 (by decide) ?_
  refine go_put hC kX3 hM.1.1 0 q1752 dX3_ifPicked_2 (by decide) (Nat.le_of_ble_eq_true rfl) (Or.inl rfl) rfl rfl rfl ?_
  refine hM.st (fun h1 hM1 ht1 => ?_)
  have no : oIpk a r w = (1, 0, a) → Go X G h1 0 0 32 [some (.ref m), some (.int r), some (.int w)] [] := by
    intro hz
    refine go_aload_n hC dX3_ifPicked_32 rfl ?_
    refine go_iconst hC (1) dX3_ifPicked_33 (by decide) ?_
    refine go_callV0 hC (c_X3_fails hM1.1 1) (lw_V q1815 q1817 qs33 q83 q1818) hM1.1.1 rfl dX3_ifPicked_34 1 rfl (by decide +kernel) rfl ⟨Nat.le_of_ble_eq_true rfl, Nat.le_of_ble_eq_true rfl⟩ (Nat.le_of_ble_eq_true rfl) ⟨rfl, rfl⟩ ?_
    rintro _ h2 ⟨rfl, hM2, ht2⟩
    refine go_iret hC hF dX3_ifPicked_37 rfl rfl ?_
    rw [hz]
    exact ⟨rfl, hM1.fl hM2 rfl, ht1.tr ht2⟩
  refine go_iload_n hC dX3_ifPicked_5 rfl ?_
  refine go_iconst hC (0) dX3_ifPicked_6 (by decide) ?_
  refine go_iconst hC (nI 2) dX3_ifPicked_7 (by decide) ?_
  refine go_callS0 hC (c_X3_in r 0 (nI 2)) (lw_S q1812 q1813 q83 q1814) dX3_ifPicked_8 3 rfl (by decide +kernel) rfl ⟨Nat.le_of_ble_eq_true rfl, Nat.le_of_ble_eq_true rfl⟩ (Nat.le_of_ble_eq_true rfl) ⟨rfl, rfl⟩ ?_
  rintro _ _ ⟨rfl, rfl⟩
  refine go_B_eq hC 32 dX3_ifPicked_11 (by decide) rfl (fun c11 => ?_) (fun c11 => ?_)
  · exact no (if_pos c11)
  obtain ⟨j, j1, j2, j3⟩ := inB_0 (b := 2) (by omega) c11
  refine go_iload_n hC dX3_ifPicked_14 rfl ?_
  refine go_iconst hC (0) dX3_ifPicked_15 (by decide) ?_
  refine go_iconst hC (nI 3) dX3_ifPicked_16 (by decide) ?_
  refine go_callS0 hC (c_X3_in w 0 (nI 3)) (lw_S q1812 q1813 q83 q1814) dX3_ifPicked_17 3 rfl (by decide +kernel) rfl ⟨Nat.le_of_ble_eq_true rfl, Nat.le_of_ble_eq_true rfl⟩ (Nat.le_of_ble_eq_true rfl) ⟨rfl, rfl⟩ ?_
  rintro _ _ ⟨rfl, rfl⟩
  refine go_B_eq hC 32 dX3_ifPicked_20 (by decide) rfl (fun c20 => ?_) (fun c20 => ?_)
  · exact no (by unfold oIpk; rw [if_neg (fun q => absurd (q.symm.trans c11) (by decide)), if_pos c20])
  obtain ⟨q, q1, q2, q3⟩ := inB_0 (b := 3) (by omega) c20
  subst j2
  subst q2
  refine go_aload_n hC dX3_ifPicked_23 rfl ?_
  refine go_iload_n hC dX3_ifPicked_24 rfl ?_
  refine go_iload_n hC dX3_ifPicked_25 rfl ?_
  refine go_callV0 hC (c_X3_picked hM1 hw hc j q q1) (lw_V q2037 q2039 qs68 q83 q2040) hM1.1.1 rfl dX3_ifPicked_26 2 rfl (by decide +kernel) rfl ⟨Nat.le_of_ble_eq_true rfl, Nat.le_of_ble_eq_true rfl⟩ (Nat.le_of_ble_eq_true rfl) ⟨rfl, rfl⟩ ?_
  rintro _ h2 ⟨rfl, ⟨f2, g2, hM2, e0⟩, ht2⟩
  refine go_goto hC 37 dX3_ifPicked_29 (by decide) ?_
  refine go_iret hC hF dX3_ifPicked_37 rfl rfl ?_
  rw [show oIpk a (nI j) (nI q) = (0, pkd a.1 a.2.2 (nI j) q, a) by unfold oIpk; rw [if_neg (fun q => absurd (q.symm.trans c11) (by decide)), if_neg (fun q => absurd (q.symm.trans c20) (by decide)), q3]]
  exact ⟨rfl, hM2.q (e0.trans rfl), ht1.tr ht2⟩
theorem c_X3_evenness (hQ : MQr G h m a k) (hw : WFA c a) : CT G yX3_evenness cX3_evenness 1 (some .double) (rmL 12 0 0) [.ref m] h (fun z h' => z = some (.double (evn (sI a.1))) ∧ MQr G h' m a 0 ∧ Mto h h' m) noX := by
  obtain ⟨A, f, hs, g, hM, -⟩ := hQ
  refine CT_of [some (.ref m)] (by decide +kernel) rfl (Nat.le_of_ble_eq_true rfl) (fun X hC hF hE => ?_)
  refine go_aload_n hC dX3_evenness_0 rfl ?_
  refine go_iconst hC (0) dX3_evenness_1 (by decide) ?_
  refine go_put hC kX3 hM.1.1 0 q1752 dX3_evenness_2 (by decide) (Nat.le_of_ble_eq_true rfl) (Or.inl rfl) rfl rfl rfl ?_
  refine hM.st (fun h1 hM1 ht1 => ?_)
  refine go_aload_n hC dX3_evenness_5 rfl ?_
  refine go_callV0 hC (c_X3_even hM1.1 hM1.r hw.1) (lw_V q2045 q2047 qs69 q83 q2048) hM1.1.1 rfl dX3_evenness_6 0 rfl (by decide +kernel) rfl ⟨Nat.le_of_ble_eq_true rfl, Nat.le_of_ble_eq_true rfl⟩ (Nat.le_of_ble_eq_true rfl) ⟨rfl, rfl⟩ ?_
  rintro _ _ ⟨rfl, rfl⟩
  refine go_dret hC hF dX3_evenness_9 rfl ?_
  exact ⟨rfl, hM1.q rfl, ht1⟩
end M9
