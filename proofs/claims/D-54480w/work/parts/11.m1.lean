/-! THE REFERENCE (DrawerRingModel), what only reads -/
set_option maxRecDepth 100000
def mfs (A : Nat → Nat) (f : Nat → Int32) (hs : Int64) : List Value := [.int (f 0), .ref (A 1), .ref (A 2), .ref (A 3), .int (f 4), .ref (A 5), .int (f 6), .int (f 7), .int (f 8), .ref (A 9), .int (f 10), .ref (A 11), .ref (A 12), .ref (A 13), .ref (A 14), .long hs]
/-- the reference at m: its object (fields f, hash hs), its arrays A with contents g -/
def MRep (G : GT) (h : PH) (m : Nat) (A : Nat → Nat) (f : Nat → Int32) (hs : Int64) (g : Nat → Nat → Int32) : Prop :=
  h m = some ((m, 0), ob 6 (mfs A f hs)) ∧ h (A 1) = some ((m, 1), ia G 142 (g 1)) ∧ h (A 2) = some ((m, 2), ia G 142 (g 2)) ∧ h (A 3) = some ((m, 3), ia G 852 (g 3)) ∧ h (A 5) = some ((m, 5), ia G 60 (g 5)) ∧ h (A 9) = some ((m, 9), ia G 6 (g 9)) ∧ h (A 11) = some ((m, 11), ia G 6 (g 11)) ∧ h (A 12) = some ((m, 12), ia G 6 (g 12)) ∧ h (A 13) = some ((m, 13), za G 6 (g 13)) ∧ h (A 14) = some ((m, 14), ia G 142 (g 14))
section M1
variable {G : GT} {h : PH} {m : Nat} {A : Nat → Nat} {f : Nat → Int32} {hs : Int64} {g : Nat → Nat → Int32} {t : St} {c : Nat}
theorem c_X3_of (hM : MRep G h m A f hs g) (i w : Nat) (hi : i < 40) (hw : w < 3) : CT G yX3_of cX3_of 3 (some .int) (rmL 1 0 0) [.ref m, .int (nI i), .int (nI w)] h (fun v h' => v = some (.int (g 1 (22 + 3 * i + w))) ∧ h = h') noX := by
  refine CT_of [some (.ref m), some (.int (nI i)), some (.int (nI w))] (by decide +kernel) rfl (Nat.le_of_ble_eq_true rfl) (fun X hC hF hE => ?_)
  refine go_aload_n hC dX3_of_0 rfl ?_
  refine go_get hC kX3 hM.1 1 q1753 dX3_of_1 rfl (by decide) (Or.inl rfl) ?_
  refine go_bipush hC (nI 22) dX3_of_4 (by decide) ?_
  refine go_iconst hC (nI 3) dX3_of_6 (by decide) ?_
  refine go_iload_n hC dX3_of_7 rfl ?_
  refine go_imul hC dX3_of_8 ?_
  refine go_iadd hC dX3_of_9 ?_
  refine go_iload_n hC dX3_of_10 rfl ?_
  refine go_iadd hC dX3_of_11 ?_
  refine go_iald hC (22+3*i+w) hM.2.1 dX3_of_12 (by first | rfl | (simp only [nI_add, pk_mul, nI_1, Int32.add_zero]; done) | (simp only [nI_add, pk_mul, nI_1, Int32.add_zero]; exact congrArg nI (by omega))) (by omega) (by omega) ?_
  refine go_iret hC hF dX3_of_13 rfl rfl ?_
  exact ⟨rfl, rfl⟩
theorem c_X3_placeOf (d w : Nat) (hd : d < 12) (hw : w < 12) : CT G yX3_placeOf cX3_placeOf 2 (some .int) (rmL 1 0 0) [.int (nI d), .int (nI w)] h (fun v h' => v = some (.int (nI (plc d w))) ∧ h = h') noX := by
  refine CT_of [some (.int (nI d)), some (.int (nI w))] (by decide +kernel) rfl (Nat.le_of_ble_eq_true rfl) (fun X hC hF hE => ?_)
  refine go_iload_n hC dX3_placeOf_0 rfl ?_
  refine go_iload_n hC dX3_placeOf_1 rfl ?_
  refine go_isub hC dX3_placeOf_2 ?_
  refine go_bipush hC (nI 12) dX3_placeOf_3 (by decide) ?_
  refine go_iadd hC dX3_placeOf_5 ?_
  refine go_bipush hC (nI 12) dX3_placeOf_6 (by decide) ?_
  refine go_irem hC dX3_placeOf_8 (by decide) ?_
  refine go_iret hC hF dX3_placeOf_9 rfl rfl ?_
  exact ⟨by rw [nI_plc hd hw], rfl⟩
theorem c_X3_loadOf (hM : MRep G h m A f hs g) (hr : Row (g 1) t) (hw : WF c t) (d : Nat) (hd : d < 12) : CT G yX3_loadOf cX3_loadOf 4 (some .int) (rmL 2 0 0) [.ref m, .int (nI d)] h (fun v h' => v = some (.int (ld (sI t) d)) ∧ h = h') noX := by
  refine CT_of [some (.ref m), some (.int (nI d)), none, none] (by decide +kernel) rfl (Nat.le_of_ble_eq_true rfl) (fun X hC hF hE => ?_)
  have hn := hw.n
  have h9 := hr.2.2.2.2.1
  have loop : ∀ (i : Nat) (a : Int32), i ≤ (sI t).length → ((sI t).drop i).foldl (ldf d) a = ld (sI t) d → Go X G h 0 0 4 [some (.ref m), some (.int (nI d)), some (.int a), some (.int (nI i))] [] := by
    refine lpB (fun i _ => (sI t).length - i) (fun i a ih hi ha => ?_)
    refine go_iload_n hC dX3_loadOf_4 rfl ?_
    refine go_aload_n hC dX3_loadOf_5 rfl ?_
    refine go_get hC kX3 hM.1 1 q1753 dX3_loadOf_6 rfl (by decide) (Or.inl rfl) ?_
    refine go_bipush hC (nI 9) dX3_loadOf_9 (by decide) ?_
    refine go_iald hC 9 hM.2.1 dX3_loadOf_11 (by first | rfl | (simp only [nI_add, pk_mul, nI_1, Int32.add_zero]; done) | (simp only [nI_add, pk_mul, nI_1, Int32.add_zero]; exact congrArg nI (by omega))) (by omega) (by omega) ?_
    refine go_icmp_ge hC 44 dX3_loadOf_12 (by decide) (fun c12 => ?_) (fun c12 => ?_)
    · rw [h9, nI_leI (by omega) (by omega)] at c12
      refine go_iload_n hC dX3_loadOf_44 rfl ?_
      refine go_iret hC hF dX3_loadOf_45 rfl rfl ?_
      rw [drop_end (by omega)] at ha
      exact ⟨by rw [← ha]; rfl, rfl⟩
    · rw [h9, nI_leI (by omega) (by omega)] at c12
      obtain ⟨x, hx, hdr⟩ := get_of (Nat.not_le.mp c12)
      obtain ⟨e0, e1, e2⟩ := hr.2.2.2.2.2.2 i x hx
      have hx2 := (hw.it hx).2
      rw [hdr, List.foldl_cons] at ha
      refine go_iload_n hC dX3_loadOf_15 rfl ?_
      refine go_aload_n hC dX3_loadOf_16 rfl ?_
      refine go_iload_n hC dX3_loadOf_17 rfl ?_
      refine go_iconst hC (nI 2) dX3_loadOf_18 (by decide) ?_
      refine go_callV0 hC (c_X3_of hM i 2 (by omega) (by omega)) (lw_V q1823 q1825 qs35 q83 q1826) hM.1 rfl dX3_loadOf_19 2 rfl (by decide +kernel) rfl ⟨Nat.le_of_ble_eq_true rfl, Nat.le_of_ble_eq_true rfl⟩ (Nat.le_of_ble_eq_true rfl) ⟨rfl, rfl⟩ ?_
      rintro _ _ ⟨rfl, rfl⟩
      refine go_iload_n hC dX3_loadOf_22 rfl ?_
      refine go_icmp_ne hC 35 dX3_loadOf_23 (by decide) (fun c23 => ?_) (fun c23 => ?_)
      · rw [e2, nI_eq (by omega) (by omega)] at c23
        refine go_iconst hC (0) dX3_loadOf_35 (by decide) ?_
        refine go_iadd hC dX3_loadOf_36 ?_
        refine go_istore_n hC dX3_loadOf_37 (by decide) ?_
        refine go_iinc hC (v := nI (i + 1)) dX3_loadOf_38 rfl (nI_1 _) (by decide) ?_
        refine go_goto hC 4 dX3_loadOf_41 (by decide) ?_
        refine ih (i + 1) _ (by omega) (by omega) ?_
        rw [← ha]; simp only [ldf, if_neg c23]
      · rw [e2, nI_eq (by omega) (by omega)] at c23
        refine go_aload_n hC dX3_loadOf_26 rfl ?_
        refine go_iload_n hC dX3_loadOf_27 rfl ?_
        refine go_iconst hC (1) dX3_loadOf_28 (by decide) ?_
        refine go_callV0 hC (c_X3_of hM i 1 (by omega) (by omega)) (lw_V q1823 q1825 qs35 q83 q1826) hM.1 rfl dX3_loadOf_29 2 rfl (by decide +kernel) rfl ⟨Nat.le_of_ble_eq_true rfl, Nat.le_of_ble_eq_true rfl⟩ (Nat.le_of_ble_eq_true rfl) ⟨rfl, rfl⟩ ?_
        rintro _ _ ⟨rfl, rfl⟩
        refine go_goto hC 36 dX3_loadOf_32 (by decide) ?_
        refine go_iadd hC dX3_loadOf_36 ?_
        refine go_istore_n hC dX3_loadOf_37 (by decide) ?_
        refine go_iinc hC (v := nI (i + 1)) dX3_loadOf_38 rfl (nI_1 _) (by decide) ?_
        refine go_goto hC 4 dX3_loadOf_41 (by decide) ?_
        refine ih (i + 1) _ (by omega) (by omega) ?_
        rw [← ha, e1]; simp only [ldf, if_pos c23]
  refine go_iconst hC (0) dX3_loadOf_0 (by decide) ?_
  refine go_istore_n hC dX3_loadOf_1 (by decide) ?_
  refine go_iconst hC (0) dX3_loadOf_2 (by decide) ?_
  refine go_istore_n hC dX3_loadOf_3 (by decide) ?_
  exact loop 0 0 (Nat.zero_le _) rfl
theorem c_X3_thrown (hM : MRep G h m A f hs g) : CT G yX3_thrown cX3_thrown 1 (some .int) (rmL 1 0 0) [.ref m] h (fun v h' => v = some (.int (f 0)) ∧ h = h') noX := by
  refine CT_of [some (.ref m)] (by decide +kernel) rfl (Nat.le_of_ble_eq_true rfl) (fun X hC hF hE => ?_)
  refine go_aload_n hC dX3_thrown_0 rfl ?_
  refine go_get hC kX3 hM.1 0 q1752 dX3_thrown_1 rfl (by decide) (Or.inl rfl) ?_
  refine go_iret hC hF dX3_thrown_4 rfl rfl ?_
  exact ⟨rfl, rfl⟩
theorem c_X3_in (x a b : Int32) : CT G yX3_in cX3_in 3 (some .boolean) (rmL 1 0 0) [.int x, .int a, .int b] h (fun v h' => v = some (.int (bI (decide (a ≤ x ∧ x ≤ b)))) ∧ h = h') noX := by
  refine CT_of [some (.int x), some (.int a), some (.int b)] (by decide +kernel) rfl (Nat.le_of_ble_eq_true rfl) (fun X hC hF hE => ?_)
  refine go_iload_n hC dX3_in_0 rfl ?_
  refine go_iload_n hC dX3_in_1 rfl ?_
  refine go_icmp_lt hC 14 dX3_in_2 (by decide) (fun c2 => ?_) (fun c2 => ?_)
  · refine go_iconst hC (0) dX3_in_14 (by decide) ?_
    refine go_iret hC hF dX3_in_15 rfl rfl ?_
    rw [decide_eq_false (fun z => absurd z.1 (i32_nle.mpr c2))]; exact ⟨rfl, rfl⟩
  · refine go_iload_n hC dX3_in_5 rfl ?_
    refine go_iload_n hC dX3_in_6 rfl ?_
    refine go_icmp_gt hC 14 dX3_in_7 (by decide) (fun c7 => ?_) (fun c7 => ?_)
    · refine go_iconst hC (0) dX3_in_14 (by decide) ?_
      refine go_iret hC hF dX3_in_15 rfl rfl ?_
      rw [decide_eq_false (fun z => absurd z.2 (i32_nle.mpr c7))]; exact ⟨rfl, rfl⟩
    · refine go_iconst hC (1) dX3_in_10 (by decide) ?_
      refine go_goto hC 15 dX3_in_11 (by decide) ?_
      refine go_iret hC hF dX3_in_15 rfl rfl ?_
      rw [decide_eq_true ⟨i32_nlt.mp c2, i32_nlt.mp c7⟩]; exact ⟨rfl, rfl⟩
theorem c_X3_isDrawer (x : Int32) : CT G yX3_isDrawer cX3_isDrawer 1 (some .boolean) (rmL 2 0 0) [.int x] h (fun v h' => v = some (.int (bI (decide (0 ≤ x ∧ x ≤ nI 11)))) ∧ h = h') noX := by
  refine CT_of [some (.int x)] (by decide +kernel) rfl (Nat.le_of_ble_eq_true rfl) (fun X hC hF hE => ?_)
  refine go_iload_n hC dX3_isDrawer_0 rfl ?_
  refine go_iconst hC (0) dX3_isDrawer_1 (by decide) ?_
  refine go_bipush hC (nI 11) dX3_isDrawer_2 (by decide) ?_
  refine go_callS0 hC (c_X3_in x 0 (nI 11)) (lw_S q1812 q1813 q83 q1814) dX3_isDrawer_4 3 rfl (by decide +kernel) rfl ⟨Nat.le_of_ble_eq_true rfl, Nat.le_of_ble_eq_true rfl⟩ (Nat.le_of_ble_eq_true rfl) ⟨rfl, rfl⟩ ?_
  rintro _ _ ⟨rfl, rfl⟩
  refine go_iret hC hF dX3_isDrawer_7 rfl (by cases decide (0 ≤ x ∧ x ≤ nI 11) <;> rfl) ?_
  exact ⟨rfl, rfl⟩
theorem c_X3_itemsOf (hM : MRep G h m A f hs g) (hr : Row (g 1) t) (hw : WF c t) (d : Nat) (hd : d < 12) : CT G yX3_itemsOf cX3_itemsOf 4 (some .int) (rmL 2 0 0) [.ref m, .int (nI d)] h (fun v h' => v = some (.int (itn (sI t) d)) ∧ h = h') noX := by
  refine CT_of [some (.ref m), some (.int (nI d)), none, none] (by decide +kernel) rfl (Nat.le_of_ble_eq_true rfl) (fun X hC hF hE => ?_)
  have hn := hw.n
  have h9 := hr.2.2.2.2.1
  have loop : ∀ (i : Nat) (a : Int32), i ≤ (sI t).length → ((sI t).drop i).foldl (itf d) a = itn (sI t) d → Go X G h 0 0 4 [some (.ref m), some (.int (nI d)), some (.int a), some (.int (nI i))] [] := by
    refine lpB (fun i _ => (sI t).length - i) (fun i a ih hi ha => ?_)
    refine go_iload_n hC dX3_itemsOf_4 rfl ?_
    refine go_aload_n hC dX3_itemsOf_5 rfl ?_
    refine go_get hC kX3 hM.1 1 q1753 dX3_itemsOf_6 rfl (by decide) (Or.inl rfl) ?_
    refine go_bipush hC (nI 9) dX3_itemsOf_9 (by decide) ?_
    refine go_iald hC 9 hM.2.1 dX3_itemsOf_11 (by first | rfl | (simp only [nI_add, pk_mul, nI_1, Int32.add_zero]; done) | (simp only [nI_add, pk_mul, nI_1, Int32.add_zero]; exact congrArg nI (by omega))) (by omega) (by omega) ?_
    refine go_N_ge hC 39 dX3_itemsOf_12 (by decide) rfl h9 (by omega) (by omega) (fun c12 => ?_) (fun c12 => ?_)
    · refine go_iload_n hC dX3_itemsOf_39 rfl ?_
      refine go_iret hC hF dX3_itemsOf_40 rfl rfl ?_
      rw [drop_end (by omega)] at ha
      exact ⟨by rw [← ha]; rfl, rfl⟩
    · obtain ⟨x, hx, hdr⟩ := get_of c12
      obtain ⟨e0, e1, e2⟩ := hr.2.2.2.2.2.2 i x hx
      have hx2 := (hw.it hx).2
      rw [hdr, List.foldl_cons] at ha
      refine go_iload_n hC dX3_itemsOf_15 rfl ?_
      refine go_aload_n hC dX3_itemsOf_16 rfl ?_
      refine go_iload_n hC dX3_itemsOf_17 rfl ?_
      refine go_iconst hC (nI 2) dX3_itemsOf_18 (by decide) ?_
      refine go_callV0 hC (c_X3_of hM i 2 (by omega) (by omega)) (lw_V q1823 q1825 qs35 q83 q1826) hM.1 rfl dX3_itemsOf_19 2 rfl (by decide +kernel) rfl ⟨Nat.le_of_ble_eq_true rfl, Nat.le_of_ble_eq_true rfl⟩ (Nat.le_of_ble_eq_true rfl) ⟨rfl, rfl⟩ ?_
      rintro _ _ ⟨rfl, rfl⟩
      refine go_iload_n hC dX3_itemsOf_22 rfl ?_
      refine go_N_ne hC 30 dX3_itemsOf_23 (by decide) e2 rfl (by omega) (by omega) (fun c23 => ?_) (fun c23 => ?_)
      · refine go_iconst hC (0) dX3_itemsOf_30 (by decide) ?_
        refine go_iadd hC dX3_itemsOf_31 ?_
        refine go_istore_n hC dX3_itemsOf_32 (by decide) ?_
        refine go_iinc hC (v := nI (i + 1)) dX3_itemsOf_33 rfl (nI_1 _) (by decide) ?_
        refine go_goto hC 4 dX3_itemsOf_36 (by decide) ?_
        refine ih (i + 1) _ (by omega) (by omega) ?_
        rw [← ha]; simp only [itf, if_neg c23]
      · refine go_iconst hC (1) dX3_itemsOf_26 (by decide) ?_
        refine go_goto hC 31 dX3_itemsOf_27 (by decide) ?_
        refine go_iadd hC dX3_itemsOf_31 ?_
        refine go_istore_n hC dX3_itemsOf_32 (by decide) ?_
        refine go_iinc hC (v := nI (i + 1)) dX3_itemsOf_33 rfl (nI_1 _) (by decide) ?_
        refine go_goto hC 4 dX3_itemsOf_36 (by decide) ?_
        refine ih (i + 1) _ (by omega) (by omega) ?_
        rw [← ha]; simp only [itf, if_pos c23]
  refine go_iconst hC (0) dX3_itemsOf_0 (by decide) ?_
  refine go_istore_n hC dX3_itemsOf_1 (by decide) ?_
  refine go_iconst hC (0) dX3_itemsOf_2 (by decide) ?_
  refine go_istore_n hC dX3_itemsOf_3 (by decide) ?_
  exact loop 0 0 (Nat.zero_le _) rfl
theorem c_X3_imbalance (hM : MRep G h m A f hs g) (hr : Row (g 1) t) (hw : WD t) (w : Nat) (hd : w < 12) : CT G yX3_imbalance cX3_imbalance 5 (some .int) (rmL 2 0 0) [.ref m, .int (nI w)] h (fun v h' => v = some (.int (imb (sI t) w)) ∧ h = h') noX := by
  refine CT_of [some (.ref m), some (.int (nI w)), none, none, none] (by decide +kernel) rfl (Nat.le_of_ble_eq_true rfl) (fun X hC hF hE => ?_)
  have hn := hw.1
  have h9 := hr.2.2.2.2.1
  have loop : ∀ (i : Nat) (a : Int32) (z : Option Value), i ≤ (sI t).length → absI (((sI t).drop i).foldl (sgf w) a) = imb (sI t) w → Go X G h 0 0 4 [some (.ref m), some (.int (nI w)), some (.int a), some (.int (nI i)), z] [] := by
    refine lpC (fun i _ _ => (sI t).length - i) (fun i a z ih hi ha => ?_)
    refine go_iload_n hC dX3_imbalance_4 rfl ?_
    refine go_aload_n hC dX3_imbalance_5 rfl ?_
    refine go_get hC kX3 hM.1 1 q1753 dX3_imbalance_6 rfl (by decide) (Or.inl rfl) ?_
    refine go_bipush hC (nI 9) dX3_imbalance_9 (by decide) ?_
    refine go_iald hC 9 hM.2.1 dX3_imbalance_11 (by first | rfl | (simp only [nI_add, pk_mul, nI_1, Int32.add_zero]; done) | (simp only [nI_add, pk_mul, nI_1, Int32.add_zero]; exact congrArg nI (by omega))) (by omega) (by omega) ?_
    refine go_N_ge hC 75 dX3_imbalance_12 (by decide) rfl h9 (by omega) (by omega) (fun c12 => ?_) (fun c12 => ?_)
    · rw [drop_end (by omega)] at ha
      refine go_iload_n hC dX3_imbalance_75 rfl ?_
      refine go_if_ge hC 84 dX3_imbalance_76 (by decide) (fun c76 => ?_) (fun c76 => ?_)
      · refine go_iload_n hC dX3_imbalance_84 rfl ?_
        refine go_iret hC hF dX3_imbalance_85 rfl rfl ?_
        exact ⟨by rw [← ha]; exact congrArg (fun q => some (Value.int q)) (absI_p c76).symm, rfl⟩
      · refine go_iload_n hC dX3_imbalance_79 rfl ?_
        refine go_ineg hC dX3_imbalance_80 ?_
        refine go_goto hC 85 dX3_imbalance_81 (by decide) ?_
        refine go_iret hC hF dX3_imbalance_85 rfl rfl ?_
        exact ⟨by rw [← ha]; exact congrArg (fun q => some (Value.int q)) (absI_m c76).symm, rfl⟩
    · obtain ⟨x, hx, hdr⟩ := get_of c12
      obtain ⟨e0, e1, e2⟩ := hr.2.2.2.2.2.2 i x hx
      have hx2 := hw.it hx
      rw [hdr, List.foldl_cons] at ha
      have hp := plc_lt x.2.2 w
      have back : ∀ (v : Int32) (z : Option Value), v = sgn (plc x.2.2 w) x.2.1 → Go X G h 0 0 67 [some (.ref m), some (.int (nI w)), some (.int a), some (.int (nI i)), z] [.int v, .int a] := by
        intro v z hv
        refine go_iadd hC dX3_imbalance_67 ?_
        refine go_istore_n hC dX3_imbalance_68 (by decide) ?_
        refine go_iinc hC (v := nI (i + 1)) dX3_imbalance_69 rfl (nI_1 _) (by decide) ?_
        refine go_goto hC 4 dX3_imbalance_72 (by decide) ?_
        refine ih (i + 1) _ z (by omega) (by omega) ?_
        rw [← ha, hv]; rfl
      refine go_aload_n hC dX3_imbalance_15 rfl ?_
      refine go_iload_n hC dX3_imbalance_16 rfl ?_
      refine go_iconst hC (nI 2) dX3_imbalance_17 (by decide) ?_
      refine go_callV0 hC (c_X3_of hM i 2 (by omega) (by omega)) (lw_V q1823 q1825 qs35 q83 q1826) hM.1 rfl dX3_imbalance_18 2 rfl (by decide +kernel) rfl ⟨Nat.le_of_ble_eq_true rfl, Nat.le_of_ble_eq_true rfl⟩ (Nat.le_of_ble_eq_true rfl) ⟨rfl, rfl⟩ ?_
      rintro _ _ ⟨rfl, rfl⟩
      refine go_iload_n hC dX3_imbalance_21 rfl ?_
      rw [e2]
      refine go_callS0 hC (c_X3_placeOf x.2.2 w hx2 hd) (lw_S q1835 q1836 q83 q1837) dX3_imbalance_22 2 rfl (by decide +kernel) rfl ⟨Nat.le_of_ble_eq_true rfl, Nat.le_of_ble_eq_true rfl⟩ (Nat.le_of_ble_eq_true rfl) ⟨rfl, rfl⟩ ?_
      rintro _ _ ⟨rfl, rfl⟩
      refine go_istore hC dX3_imbalance_25 (by decide) ?_
      refine go_iload_n hC dX3_imbalance_27 rfl ?_
      refine go_iload hC dX3_imbalance_28 rfl ?_
      refine go_if_eq hC 40 dX3_imbalance_30 (by decide) (fun c30 => ?_) (fun c30 => ?_)
      · refine go_iconst hC (0) dX3_imbalance_40 (by decide) ?_
        refine go_goto hC 67 dX3_imbalance_41 (by decide) ?_
        refine back _ _ ?_
        rw [nI_e0 (by omega)] at c30
        simp only [sgn, if_pos c30]
      · rw [nI_e0 (by omega)] at c30
        refine go_iload hC dX3_imbalance_33 rfl ?_
        refine go_bipush hC (nI 6) dX3_imbalance_35 (by decide) ?_
        refine go_N_ne hC 44 dX3_imbalance_37 (by decide) rfl rfl (by omega) (by omega) (fun c37 => ?_) (fun c37 => ?_)
        · refine go_iload hC dX3_imbalance_44 rfl ?_
          refine go_bipush hC (nI 6) dX3_imbalance_46 (by decide) ?_
          refine go_N_ge hC 60 dX3_imbalance_48 (by decide) rfl rfl (by omega) (by omega) (fun c48 => ?_) (fun c48 => ?_)
          · refine go_aload_n hC dX3_imbalance_60 rfl ?_
            refine go_iload_n hC dX3_imbalance_61 rfl ?_
            refine go_iconst hC (1) dX3_imbalance_62 (by decide) ?_
            refine go_callV0 hC (c_X3_of hM i 1 (by omega) (by omega)) (lw_V q1823 q1825 qs35 q83 q1826) hM.1 rfl dX3_imbalance_63 2 rfl (by decide +kernel) rfl ⟨Nat.le_of_ble_eq_true rfl, Nat.le_of_ble_eq_true rfl⟩ (Nat.le_of_ble_eq_true rfl) ⟨rfl, rfl⟩ ?_
            rintro _ _ ⟨rfl, rfl⟩
            refine go_ineg hC dX3_imbalance_66 ?_
            refine back _ _ ?_
            rw [e1]; simp only [sgn, if_neg c30, if_neg c37, if_neg (Nat.not_lt.mpr c48)]
          · refine go_aload_n hC dX3_imbalance_51 rfl ?_
            refine go_iload_n hC dX3_imbalance_52 rfl ?_
            refine go_iconst hC (1) dX3_imbalance_53 (by decide) ?_
            refine go_callV0 hC (c_X3_of hM i 1 (by omega) (by omega)) (lw_V q1823 q1825 qs35 q83 q1826) hM.1 rfl dX3_imbalance_54 2 rfl (by decide +kernel) rfl ⟨Nat.le_of_ble_eq_true rfl, Nat.le_of_ble_eq_true rfl⟩ (Nat.le_of_ble_eq_true rfl) ⟨rfl, rfl⟩ ?_
            rintro _ _ ⟨rfl, rfl⟩
            refine go_goto hC 67 dX3_imbalance_57 (by decide) ?_
            refine back _ _ ?_
            rw [e1]; simp only [sgn, if_neg c30, if_neg c37, if_pos c48]
        · refine go_iconst hC (0) dX3_imbalance_40 (by decide) ?_
          refine go_goto hC 67 dX3_imbalance_41 (by decide) ?_
          refine back _ _ ?_
          simp only [sgn, if_neg c30, if_pos c37]
  refine go_iconst hC (0) dX3_imbalance_0 (by decide) ?_
  refine go_istore_n hC dX3_imbalance_1 (by decide) ?_
  refine go_iconst hC (0) dX3_imbalance_2 (by decide) ?_
  refine go_istore_n hC dX3_imbalance_3 (by decide) ?_
  exact loop 0 0 _ (Nat.zero_le _) rfl
end M1
