/-! THE REFERENCE, what only reads, on -/
set_option maxRecDepth 100000
section M1b
variable {G : GT} {h : PH} {m : Nat} {A : Nat → Nat} {f : Nat → Int32} {hs : Int64} {g : Nat → Nat → Int32} {t : St} {c : Nat}
theorem c_X3_greatest (hM : MRep G h m A f hs g) (hr : Row (g 1) t) (hw : WF c t) : CT G yX3_greatest cX3_greatest 3 (some .int) (rmL 3 0 0) [.ref m] h (fun v h' => v = some (.int (top12 (imb (sI t)))) ∧ h = h') noX := by
  refine CT_of [some (.ref m), none, none] (by decide +kernel) rfl (Nat.le_of_ble_eq_true rfl) (fun X hC hF hE => ?_)
  have loop : ∀ (i : Nat) (a : Int32), i ≤ 12 → (List.range' i (12 - i)).foldl (fun a w => maxI a (imb (sI t) w)) a = top12 (imb (sI t)) → Go X G h 0 0 4 [some (.ref m), some (.int a), some (.int (nI i))] [] := by
    refine lpB (fun i _ => 12 - i) (fun i a ih hi ha => ?_)
    refine go_iload_n hC dX3_greatest_4 rfl ?_
    refine go_bipush hC (nI 12) dX3_greatest_5 (by decide) ?_
    refine go_N_ge hC 35 dX3_greatest_7 (by decide) rfl rfl (by omega) (by omega) (fun c7 => ?_) (fun c7 => ?_)
    · rw [rg_e c7] at ha
      refine go_iload_n hC dX3_greatest_35 rfl ?_
      refine go_iret hC hF dX3_greatest_36 rfl rfl ?_
      exact ⟨by rw [← ha]; rfl, rfl⟩
    · rw [rg_c c7, List.foldl_cons] at ha
      refine go_aload_n hC dX3_greatest_10 rfl ?_
      refine go_iload_n hC dX3_greatest_11 rfl ?_
      refine go_callV0 hC (c_X3_imbalance hM hr hw.d i c7) (lw_V q1831 q1833 qs37 q83 q1834) hM.1 rfl dX3_greatest_12 1 rfl (by decide +kernel) rfl ⟨Nat.le_of_ble_eq_true rfl, Nat.le_of_ble_eq_true rfl⟩ (Nat.le_of_ble_eq_true rfl) ⟨rfl, rfl⟩ ?_
      rintro _ _ ⟨rfl, rfl⟩
      refine go_iload_n hC dX3_greatest_15 rfl ?_
      refine go_icmp_le hC 27 dX3_greatest_16 (by decide) (fun c16 => ?_) (fun c16 => ?_)
      · refine go_iload_n hC dX3_greatest_27 rfl ?_
        refine go_istore_n hC dX3_greatest_28 (by decide) ?_
        refine go_iinc hC (v := nI (i + 1)) dX3_greatest_29 rfl (nI_1 _) (by decide) ?_
        refine go_goto hC 4 dX3_greatest_32 (by decide) ?_
        exact ih (i + 1) _ (by omega) (by omega) (by rw [← ha, maxI_l c16])
      · refine go_aload_n hC dX3_greatest_19 rfl ?_
        refine go_iload_n hC dX3_greatest_20 rfl ?_
        refine go_callV0 hC (c_X3_imbalance hM hr hw.d i c7) (lw_V q1831 q1833 qs37 q83 q1834) hM.1 rfl dX3_greatest_21 1 rfl (by decide +kernel) rfl ⟨Nat.le_of_ble_eq_true rfl, Nat.le_of_ble_eq_true rfl⟩ (Nat.le_of_ble_eq_true rfl) ⟨rfl, rfl⟩ ?_
        rintro _ _ ⟨rfl, rfl⟩
        refine go_goto hC 28 dX3_greatest_24 (by decide) ?_
        refine go_istore_n hC dX3_greatest_28 (by decide) ?_
        refine go_iinc hC (v := nI (i + 1)) dX3_greatest_29 rfl (nI_1 _) (by decide) ?_
        refine go_goto hC 4 dX3_greatest_32 (by decide) ?_
        exact ih (i + 1) _ (by omega) (by omega) (by rw [← ha, maxI_r c16])
  refine go_iconst hC (0) dX3_greatest_0 (by decide) ?_
  refine go_istore_n hC dX3_greatest_1 (by decide) ?_
  refine go_iconst hC (0) dX3_greatest_2 (by decide) ?_
  refine go_istore_n hC dX3_greatest_3 (by decide) ?_
  exact loop 0 0 (Nat.zero_le _) rfl
theorem c_X3_placeOfItem (hM : MRep G h m A f hs g) (hr : Row (g 1) t) (hw : WF c t) (x : Int32) : CT G yX3_placeOfItem cX3_placeOfItem 3 (some .int) (rmL 2 0 0) [.ref m, .int x] h (fun v h' => v = some (.int (posI (pos (sI t) x))) ∧ h = h') noX := by
  refine CT_of [some (.ref m), some (.int x), none] (by decide +kernel) rfl (Nat.le_of_ble_eq_true rfl) (fun X hC hF hE => ?_)
  have hn := hw.n
  have h9 := hr.2.2.2.2.1
  have loop : ∀ (i : Nat), i ≤ (sI t).length → (∀ (j : Nat) (y : It), j < i → (sI t)[j]? = some y → isX x y = false) → Go X G h 0 0 2 [some (.ref m), some (.int x), some (.int (nI i))] [] := by
    refine lpA (fun i => (sI t).length - i) (fun i ih hi ha => ?_)
    refine go_iload_n hC dX3_placeOfItem_2 rfl ?_
    refine go_aload_n hC dX3_placeOfItem_3 rfl ?_
    refine go_get hC kX3 hM.1 1 q1753 dX3_placeOfItem_4 rfl (by decide) (Or.inl rfl) ?_
    refine go_bipush hC (nI 9) dX3_placeOfItem_7 (by decide) ?_
    refine go_iald hC 9 hM.2.1 dX3_placeOfItem_9 (by first | rfl | (simp only [nI_add, pk_mul, nI_1, Int32.add_zero]; done) | (simp only [nI_add, pk_mul, nI_1, Int32.add_zero]; exact congrArg nI (by omega))) (by omega) (by omega) ?_
    refine go_N_ge hC 31 dX3_placeOfItem_10 (by decide) rfl h9 (by omega) (by omega) (fun c10 => ?_) (fun c10 => ?_)
    · refine go_iconst hC (-1) dX3_placeOfItem_31 (by decide) ?_
      refine go_iret hC hF dX3_placeOfItem_32 rfl rfl ?_
      have hp : pos (sI t) x = none := fI_none (fun j y hy => ha j y (by have := (List.getElem?_eq_some_iff.mp hy).1; omega) hy)
      exact ⟨by rw [hp]; rfl, rfl⟩
    · obtain ⟨y, hy, hdr⟩ := get_of c10
      obtain ⟨e0, e1, e2⟩ := hr.2.2.2.2.2.2 i y hy
      refine go_aload_n hC dX3_placeOfItem_13 rfl ?_
      refine go_iload_n hC dX3_placeOfItem_14 rfl ?_
      refine go_iconst hC (0) dX3_placeOfItem_15 (by decide) ?_
      refine go_callV0 hC (c_X3_of hM i 0 (by omega) (by omega)) (lw_V q1823 q1825 qs35 q83 q1826) hM.1 rfl dX3_placeOfItem_16 2 rfl (by decide +kernel) rfl ⟨Nat.le_of_ble_eq_true rfl, Nat.le_of_ble_eq_true rfl⟩ (Nat.le_of_ble_eq_true rfl) ⟨rfl, rfl⟩ ?_
      rintro _ _ ⟨rfl, rfl⟩
      refine go_iload_n hC dX3_placeOfItem_19 rfl ?_
      refine go_icmp_ne hC 25 dX3_placeOfItem_20 (by decide) (fun c20 => ?_) (fun c20 => ?_)
      · refine go_iinc hC (v := nI (i + 1)) dX3_placeOfItem_25 rfl (nI_1 _) (by decide) ?_
        refine go_goto hC 2 dX3_placeOfItem_28 (by decide) ?_
        rw [show 22 + 3 * i + 0 = 22 + 3 * i from rfl, e0] at c20
        refine ih (i + 1) (by omega) (by omega) (fun j y' hj hy' => ?_)
        rcases Nat.lt_or_ge j i with q | q
        · exact ha j y' q hy'
        · have hji : j = i := by omega
          subst hji
          rw [hy] at hy'
          cases hy'
          simp [isX, c20]
      · refine go_iload_n hC dX3_placeOfItem_23 rfl ?_
        refine go_iret hC hF dX3_placeOfItem_24 rfl rfl ?_
        rw [show 22 + 3 * i + 0 = 22 + 3 * i from rfl, e0] at c20
        have hp : pos (sI t) x = some i := fI_some hy (by simp [isX, c20]) ha
        exact ⟨by rw [hp]; rfl, rfl⟩
  refine go_iconst hC (0) dX3_placeOfItem_0 (by decide) ?_
  refine go_istore_n hC dX3_placeOfItem_1 (by decide) ?_
  exact loop 0 (Nat.zero_le _) (fun j y hj => absurd hj (Nat.not_lt_zero _))
theorem c_X3_isOpen (hM : MRep G h m A f hs g) (hr : Row (g 1) t) (hw : WF c t) (s b : Nat) (hs2 : s ≤ 12) (hb : b ≤ 11) : CT G yX3_isOpen cX3_isOpen 5 (some .boolean) (rmL 3 0 0) [.ref m, .int (nI s), .int (nI b)] h (fun v h' => v = some (.int (bI (opn (imb (sI t)) (sN t 0) (sW t) s b))) ∧ h = h') noX := by
  refine CT_of [some (.ref m), some (.int (nI s)), some (.int (nI b)), none, none] (by decide +kernel) rfl (Nat.le_of_ble_eq_true rfl) (fun X hC hF hE => ?_)
  have h3 := hr.2.1
  have h0 := hr.1 0 (by omega)
  have hww := hw.w
  have loop : ∀ (k : Nat) (z : Bool), 1 ≤ k → k ≤ s + 1 → (z && (List.range' k (s + 1 - k)).all (fun k => decide (imb (sI t) ((sW t + k * b) % 12) ≤ sN t 0))) = opn (imb (sI t)) (sN t 0) (sW t) s b → Go X G h 0 0 5 [some (.ref m), some (.int (nI s)), some (.int (nI b)), some (.int (bI z)), some (.int (nI k))] [] := by
    refine lpB (fun k _ => s + 1 - k) (fun k z ih hk1 hk ha => ?_)
    refine go_iload hC dX3_isOpen_5 rfl ?_
    refine go_iload_n hC dX3_isOpen_7 rfl ?_
    refine go_N_gt hC 54 dX3_isOpen_8 (by decide) rfl rfl (by omega) (by omega) (fun c8 => ?_) (fun c8 => ?_)
    · rw [rg_e (by omega), List.all_nil, Bool.and_true] at ha
      refine go_iload_n hC dX3_isOpen_54 rfl ?_
      refine go_iret hC hF dX3_isOpen_55 rfl (by cases z <;> rfl) ?_
      exact ⟨by rw [ha], rfl⟩
    · rw [rg_c (by omega), List.all_cons] at ha
      refine go_iload_n hC dX3_isOpen_11 rfl ?_
      refine go_B_eq hC 46 dX3_isOpen_12 (by decide) rfl (fun c12 => ?_) (fun c12 => ?_)
      · refine go_iconst hC (0) dX3_isOpen_46 (by decide) ?_
        refine go_istore_n hC dX3_isOpen_47 (by decide) ?_
        refine go_iinc hC (v := nI (k + 1)) dX3_isOpen_48 rfl (nI_1 _) (by decide) ?_
        refine go_goto hC 5 dX3_isOpen_51 (by decide) ?_
        refine ih (k + 1) false (by omega) (by omega) (by omega) ?_
        rw [← ha, c12]; simp
      · have hkb : k * b ≤ 12 * 11 := Nat.mul_le_mul (by omega) hb
        have e : g 1 3 + nI k * nI b - (g 1 3 + nI k * nI b) / nI 12 * nI 12 = nI ((sW t + k * b) % 12) := by
          rw [h3, pk_mul, nI_add, pk_rem (by omega) (by omega) (by omega)]
        refine go_aload_n hC dX3_isOpen_15 rfl ?_
        refine go_aload_n hC dX3_isOpen_16 rfl ?_
        refine go_get hC kX3 hM.1 1 q1753 dX3_isOpen_17 rfl (by decide) (Or.inl rfl) ?_
        refine go_iconst hC (nI 3) dX3_isOpen_20 (by decide) ?_
        refine go_iald hC 3 hM.2.1 dX3_isOpen_21 (by first | rfl | (simp only [nI_add, pk_mul, nI_1, Int32.add_zero]; done) | (simp only [nI_add, pk_mul, nI_1, Int32.add_zero]; exact congrArg nI (by omega))) (by omega) (by omega) ?_
        refine go_iload hC dX3_isOpen_22 rfl ?_
        refine go_iload_n hC dX3_isOpen_24 rfl ?_
        refine go_imul hC dX3_isOpen_25 ?_
        refine go_iadd hC dX3_isOpen_26 ?_
        refine go_bipush hC (nI 12) dX3_isOpen_27 (by decide) ?_
        refine go_irem hC dX3_isOpen_29 (by decide) ?_
        rw [e]
        refine go_callV0 hC (c_X3_imbalance hM hr hw.d ((sW t + k * b) % 12) (Nat.mod_lt _ (by omega))) (lw_V q1831 q1833 qs37 q83 q1834) hM.1 rfl dX3_isOpen_30 1 rfl (by decide +kernel) rfl ⟨Nat.le_of_ble_eq_true rfl, Nat.le_of_ble_eq_true rfl⟩ (Nat.le_of_ble_eq_true rfl) ⟨rfl, rfl⟩ ?_
        rintro _ _ ⟨rfl, rfl⟩
        refine go_aload_n hC dX3_isOpen_33 rfl ?_
        refine go_get hC kX3 hM.1 1 q1753 dX3_isOpen_34 rfl (by decide) (Or.inl rfl) ?_
        refine go_iconst hC (0) dX3_isOpen_37 (by decide) ?_
        refine go_iald hC 0 hM.2.1 dX3_isOpen_38 (by first | rfl | (simp only [nI_add, pk_mul, nI_1, Int32.add_zero]; done) | (simp only [nI_add, pk_mul, nI_1, Int32.add_zero]; exact congrArg nI (by omega))) (by omega) (by omega) ?_
        refine go_icmp_gt hC 46 dX3_isOpen_39 (by decide) (fun c39 => ?_) (fun c39 => ?_)
        · refine go_iconst hC (0) dX3_isOpen_46 (by decide) ?_
          refine go_istore_n hC dX3_isOpen_47 (by decide) ?_
          refine go_iinc hC (v := nI (k + 1)) dX3_isOpen_48 rfl (nI_1 _) (by decide) ?_
          refine go_goto hC 5 dX3_isOpen_51 (by decide) ?_
          refine ih (k + 1) false (by omega) (by omega) (by omega) ?_
          rw [h0] at c39
          rw [← ha, c12, decide_eq_false (i32_nle.mpr c39)]; simp
        · refine go_iconst hC (1) dX3_isOpen_42 (by decide) ?_
          refine go_goto hC 47 dX3_isOpen_43 (by decide) ?_
          refine go_istore_n hC dX3_isOpen_47 (by decide) ?_
          refine go_iinc hC (v := nI (k + 1)) dX3_isOpen_48 rfl (nI_1 _) (by decide) ?_
          refine go_goto hC 5 dX3_isOpen_51 (by decide) ?_
          refine ih (k + 1) true (by omega) (by omega) (by omega) ?_
          rw [h0] at c39
          rw [← ha, c12, decide_eq_true (i32_nlt.mp c39)]; simp
  refine go_iconst hC (1) dX3_isOpen_0 (by decide) ?_
  refine go_istore_n hC dX3_isOpen_1 (by decide) ?_
  refine go_iconst hC (1) dX3_isOpen_2 (by decide) ?_
  refine go_istore hC dX3_isOpen_3 (by decide) ?_
  exact loop 1 true (Nat.le_refl _) (by omega) rfl
theorem c_X3_size (x : Int32) : CT G yX3_size cX3_size 1 (some .int) (rmL 1 0 0) [.int x] h (fun v h' => v = some (.int (absI x)) ∧ h = h') noX := by
  refine CT_of [some (.int x)] (by decide +kernel) rfl (Nat.le_of_ble_eq_true rfl) (fun X hC hF hE => ?_)
  refine go_iload_n hC dX3_size_0 rfl ?_
  refine go_if_ge hC 9 dX3_size_1 (by decide) (fun c1 => ?_) (fun c1 => ?_)
  · refine go_iload_n hC dX3_size_9 rfl ?_
    refine go_iret hC hF dX3_size_10 rfl rfl ?_
    exact ⟨by rw [absI_p c1], rfl⟩
  · refine go_iload_n hC dX3_size_4 rfl ?_
    refine go_ineg hC dX3_size_5 ?_
    refine go_goto hC 10 dX3_size_6 (by decide) ?_
    refine go_iret hC hF dX3_size_10 rfl rfl ?_
    exact ⟨by rw [absI_m c1], rfl⟩
theorem c_X3_wayTo (hM : MRep G h m A f hs g) (hr : Row (g 1) t) (hw : WF c t) (d : Nat) (hd : d < 12) : CT G yX3_wayTo cX3_wayTo 6 (some .int) (rmL 4 0 0) [.ref m, .int (nI d)] h (fun v h' => v = some (.int (way t d)) ∧ h = h') noX := by
  refine CT_of [some (.ref m), some (.int (nI d)), none, none, none, none] (by decide +kernel) rfl (Nat.le_of_ble_eq_true rfl) (fun X hC hF hE => ?_)
  have h3 := hr.2.1
  have hww := hw.w
  have hp := plc_lt d (sW t)
  have e12 : nI 12 - nI (plc d (sW t)) = nI (12 - plc d (sW t)) := pk_sub (by omega)
  refine go_iload_n hC dX3_wayTo_0 rfl ?_
  refine go_aload_n hC dX3_wayTo_1 rfl ?_
  refine go_get hC kX3 hM.1 1 q1753 dX3_wayTo_2 rfl (by decide) (Or.inl rfl) ?_
  refine go_iconst hC (nI 3) dX3_wayTo_5 (by decide) ?_
  refine go_iald hC 3 hM.2.1 dX3_wayTo_6 (by first | rfl | (simp only [nI_add, pk_mul, nI_1, Int32.add_zero]; done) | (simp only [nI_add, pk_mul, nI_1, Int32.add_zero]; exact congrArg nI (by omega))) (by omega) (by omega) ?_
  rw [h3]
  refine go_callS0 hC (c_X3_placeOf d (sW t) hd hww) (lw_S q1835 q1836 q83 q1837) dX3_wayTo_7 2 rfl (by decide +kernel) rfl ⟨Nat.le_of_ble_eq_true rfl, Nat.le_of_ble_eq_true rfl⟩ (Nat.le_of_ble_eq_true rfl) ⟨rfl, rfl⟩ ?_
  rintro _ _ ⟨rfl, rfl⟩
  refine go_istore_n hC dX3_wayTo_10 (by decide) ?_
  refine go_bipush hC (nI 12) dX3_wayTo_11 (by decide) ?_
  refine go_iload_n hC dX3_wayTo_13 rfl ?_
  refine go_isub hC dX3_wayTo_14 ?_
  rw [e12]
  refine go_istore_n hC dX3_wayTo_15 (by decide) ?_
  refine go_iload_n hC dX3_wayTo_16 rfl ?_
  refine go_if_ne hC 22 dX3_wayTo_17 (by decide) (fun c17 => ?_) (fun c17 => ?_)
  · rw [nI_e0 (by omega)] at c17
    refine go_aload_n hC dX3_wayTo_22 rfl ?_
    refine go_iload_n hC dX3_wayTo_23 rfl ?_
    refine go_iconst hC (1) dX3_wayTo_24 (by decide) ?_
    refine go_callV0 hC (c_X3_isOpen hM hr hw (plc d (sW t)) 1 (by omega) (by omega)) (lw_V q1866 q1868 qs43 q83 q1869) hM.1 rfl dX3_wayTo_25 2 rfl (by decide +kernel) rfl ⟨Nat.le_of_ble_eq_true rfl, Nat.le_of_ble_eq_true rfl⟩ (Nat.le_of_ble_eq_true rfl) ⟨rfl, rfl⟩ ?_
    rintro _ _ ⟨rfl, rfl⟩
    refine go_istore hC dX3_wayTo_28 (by decide) ?_
    refine go_aload_n hC dX3_wayTo_30 rfl ?_
    refine go_iload_n hC dX3_wayTo_31 rfl ?_
    refine go_bipush hC (nI 11) dX3_wayTo_32 (by decide) ?_
    refine go_callV0 hC (c_X3_isOpen hM hr hw (12 - plc d (sW t)) 11 (by omega) (by omega)) (lw_V q1866 q1868 qs43 q83 q1869) hM.1 rfl dX3_wayTo_34 2 rfl (by decide +kernel) rfl ⟨Nat.le_of_ble_eq_true rfl, Nat.le_of_ble_eq_true rfl⟩ (Nat.le_of_ble_eq_true rfl) ⟨rfl, rfl⟩ ?_
    rintro _ _ ⟨rfl, rfl⟩
    refine go_istore hC dX3_wayTo_37 (by decide) ?_
    refine go_iload hC dX3_wayTo_39 rfl ?_
    refine go_B_ne hC 52 dX3_wayTo_41 (by decide) rfl (fun c41 => ?_) (fun c41 => ?_)
    · refine go_iload hC dX3_wayTo_52 rfl ?_
      refine go_B_eq hC 72 dX3_wayTo_54 (by decide) rfl (fun c54 => ?_) (fun c54 => ?_)
      · exact absurd (c41.symm.trans c54) (by decide)
      · refine go_iload_n hC dX3_wayTo_57 rfl ?_
        refine go_bipush hC (nI 6) dX3_wayTo_58 (by decide) ?_
        refine go_N_le hC 68 dX3_wayTo_60 (by decide) rfl rfl (by omega) (by omega) (fun c60 => ?_) (fun c60 => ?_)
        · refine go_iload_n hC dX3_wayTo_68 rfl ?_
          refine go_goto hC 74 dX3_wayTo_69 (by decide) ?_
          refine go_iret hC hF dX3_wayTo_74 rfl rfl ?_
          exact ⟨by simp only [way, wayP]; rw [if_neg c17, if_neg (fun z => absurd (c54.symm.trans z.1) (by decide)), if_pos ⟨c54, Or.inl c60⟩], rfl⟩
        · refine go_iload hC dX3_wayTo_63 rfl ?_
          refine go_B_ne hC 72 dX3_wayTo_65 (by decide) rfl (fun c65 => ?_) (fun c65 => ?_)
          · refine go_iload_n hC dX3_wayTo_72 rfl ?_
            refine go_ineg hC dX3_wayTo_73 ?_
            refine go_iret hC hF dX3_wayTo_74 rfl rfl ?_
            exact ⟨by simp only [way, wayP]; rw [if_neg c17, if_neg (fun z => absurd (c54.symm.trans z.1) (by decide)), if_neg (fun z => z.2.elim (fun q => absurd q (by omega)) (fun q => absurd (c65.symm.trans q) (by decide)))], rfl⟩
          · refine go_iload_n hC dX3_wayTo_68 rfl ?_
            refine go_goto hC 74 dX3_wayTo_69 (by decide) ?_
            refine go_iret hC hF dX3_wayTo_74 rfl rfl ?_
            exact ⟨by simp only [way, wayP]; rw [if_neg c17, if_neg (fun z => absurd (c54.symm.trans z.1) (by decide)), if_pos ⟨c54, Or.inr c65⟩], rfl⟩
    · refine go_iload hC dX3_wayTo_44 rfl ?_
      refine go_B_ne hC 52 dX3_wayTo_46 (by decide) rfl (fun c46 => ?_) (fun c46 => ?_)
      · refine go_iload hC dX3_wayTo_52 rfl ?_
        refine go_B_eq hC 72 dX3_wayTo_54 (by decide) rfl (fun c54 => ?_) (fun c54 => ?_)
        · refine go_iload_n hC dX3_wayTo_72 rfl ?_
          refine go_ineg hC dX3_wayTo_73 ?_
          refine go_iret hC hF dX3_wayTo_74 rfl rfl ?_
          exact ⟨by simp only [way, wayP]; rw [if_neg c17, if_neg (fun z => absurd (c46.symm.trans z.2) (by decide)), if_neg (fun z => absurd (c54.symm.trans z.1) (by decide))], rfl⟩
        · exact absurd (c41.symm.trans c54) (by decide)
      · refine go_bipush hC (nI 99) dX3_wayTo_49 (by decide) ?_
        refine go_iret hC hF dX3_wayTo_51 rfl rfl ?_
        exact ⟨by simp only [way, wayP]; rw [if_neg c17, if_pos ⟨c41, c46⟩]; rfl, rfl⟩
  · rw [nI_e0 (by omega)] at c17
    refine go_iconst hC (0) dX3_wayTo_20 (by decide) ?_
    refine go_iret hC hF dX3_wayTo_21 rfl rfl ?_
    exact ⟨by simp only [way, wayP]; rw [if_pos c17], rfl⟩
theorem c_X3_reason (hM : MRep G h m A f hs g) (hr : Row (g 1) t) (hw : WF c t) (x : Int32) : CT G yX3_reason cX3_reason 3 (some .int) (rmL 5 0 0) [.ref m, .int x] h (fun v h' => v = some (.int (reason t x)) ∧ h = h') noX := by
  refine CT_of [some (.ref m), some (.int x), none] (by decide +kernel) rfl (Nat.le_of_ble_eq_true rfl) (fun X hC hF hE => ?_)
  have hn := hw.n
  refine go_aload_n hC dX3_reason_0 rfl ?_
  refine go_iload_n hC dX3_reason_1 rfl ?_
  refine go_callV0 hC (c_X3_placeOfItem hM hr hw x) (lw_V q1850 q1852 qs40 q83 q1853) hM.1 rfl dX3_reason_2 1 rfl (by decide +kernel) rfl ⟨Nat.le_of_ble_eq_true rfl, Nat.le_of_ble_eq_true rfl⟩ (Nat.le_of_ble_eq_true rfl) ⟨rfl, rfl⟩ ?_
  rintro _ _ ⟨rfl, rfl⟩
  refine go_istore_n hC dX3_reason_5 (by decide) ?_
  rcases pos_itm (sI t) x with ⟨p1, p2⟩ | ⟨i, y, p1, p2, p3, p4⟩
  · rw [p1]
    refine go_iload_n hC dX3_reason_6 rfl ?_
    refine go_iconst hC (-1) dX3_reason_7 (by decide) ?_
    refine go_icmp_ne hC 13 dX3_reason_8 (by decide) (fun z => absurd rfl z) (fun _ => ?_)
    refine go_iconst hC (1) dX3_reason_11 (by decide) ?_
    refine go_iret hC hF dX3_reason_12 rfl rfl ?_
    exact ⟨by simp only [reason, p2], rfl⟩
  · have hil := (List.getElem?_eq_some_iff.mp p3).1
    obtain ⟨e0, e1, e2⟩ := hr.2.2.2.2.2.2 i y p3
    have hy2 := (hw.it p3).2
    have hj := hr.2.2.2.2.2.1 y.2.2 hy2
    have hne : ¬ posI (some i) = -1 := fun z => absurd (congrArg Int32.toInt z) (by show ¬ (nI i).toInt = -1; rw [nI_toInt (by omega)]; omega)
    rw [p1]
    refine go_iload_n hC dX3_reason_6 rfl ?_
    refine go_iconst hC (-1) dX3_reason_7 (by decide) ?_
    refine go_icmp_ne hC 13 dX3_reason_8 (by decide) (fun _ => ?_) (fun z => absurd z hne)
    show Go X G h 0 0 13 [some (.ref m), some (.int x), some (.int (nI i))] []
    refine go_aload_n hC dX3_reason_13 rfl ?_
    refine go_get hC kX3 hM.1 1 q1753 dX3_reason_14 rfl (by decide) (Or.inl rfl) ?_
    refine go_bipush hC (nI 10) dX3_reason_17 (by decide) ?_
    refine go_aload_n hC dX3_reason_19 rfl ?_
    refine go_iload_n hC dX3_reason_20 rfl ?_
    refine go_iconst hC (nI 2) dX3_reason_21 (by decide) ?_
    refine go_callV0 hC (c_X3_of hM i 2 (by omega) (by omega)) (lw_V q1823 q1825 qs35 q83 q1826) hM.1 rfl dX3_reason_22 2 rfl (by decide +kernel) rfl ⟨Nat.le_of_ble_eq_true rfl, Nat.le_of_ble_eq_true rfl⟩ (Nat.le_of_ble_eq_true rfl) ⟨rfl, rfl⟩ ?_
    rintro _ _ ⟨rfl, rfl⟩
    rw [e2]
    refine go_iadd hC dX3_reason_25 ?_
    refine go_iald hC (10+y.2.2) hM.2.1 dX3_reason_26 (by first | rfl | (simp only [nI_add, pk_mul, nI_1, Int32.add_zero]; done) | (simp only [nI_add, pk_mul, nI_1, Int32.add_zero]; exact congrArg nI (by omega))) (by omega) (by omega) ?_
    refine go_iconst hC (1) dX3_reason_27 (by decide) ?_
    refine go_icmp_ne hC 35 dX3_reason_28 (by decide) (fun c28 => ?_) (fun c28 => ?_)
    · have hjf : ¬ sJ t y.2.2 = true := fun z => c28 (by rw [hj, z]; rfl)
      refine go_aload_n hC dX3_reason_35 rfl ?_
      refine go_aload_n hC dX3_reason_36 rfl ?_
      refine go_iload_n hC dX3_reason_37 rfl ?_
      refine go_iconst hC (nI 2) dX3_reason_38 (by decide) ?_
      refine go_callV0 hC (c_X3_of hM i 2 (by omega) (by omega)) (lw_V q1823 q1825 qs35 q83 q1826) hM.1 rfl dX3_reason_39 2 rfl (by decide +kernel) rfl ⟨Nat.le_of_ble_eq_true rfl, Nat.le_of_ble_eq_true rfl⟩ (Nat.le_of_ble_eq_true rfl) ⟨rfl, rfl⟩ ?_
      rintro _ _ ⟨rfl, rfl⟩
      rw [e2]
      refine go_callV0 hC (c_X3_wayTo hM hr hw y.2.2 hy2) (lw_V q1862 q1864 qs42 q83 q1865) hM.1 rfl dX3_reason_42 1 rfl (by decide +kernel) rfl ⟨Nat.le_of_ble_eq_true rfl, Nat.le_of_ble_eq_true rfl⟩ (Nat.le_of_ble_eq_true rfl) ⟨rfl, rfl⟩ ?_
      rintro _ _ ⟨rfl, rfl⟩
      refine go_bipush hC (nI 99) dX3_reason_45 (by decide) ?_
      refine go_icmp_ne hC 54 dX3_reason_47 (by decide) (fun c47 => ?_) (fun c47 => ?_)
      · refine go_iconst hC (0) dX3_reason_54 (by decide) ?_
        refine go_iret hC hF dX3_reason_55 rfl rfl ?_
        exact ⟨by simp only [reason, p2]; rw [if_neg hjf, if_neg (show ¬ way t y.2.2 = 99 from c47)], rfl⟩
      · refine go_iconst hC (nI 3) dX3_reason_50 (by decide) ?_
        refine go_goto hC 55 dX3_reason_51 (by decide) ?_
        refine go_iret hC hF dX3_reason_55 rfl rfl ?_
        exact ⟨by simp only [reason, p2]; rw [if_neg hjf, if_pos (show way t y.2.2 = 99 from c47)]; rfl, rfl⟩
    · refine go_iconst hC (nI 2) dX3_reason_31 (by decide) ?_
      refine go_goto hC 55 dX3_reason_32 (by decide) ?_
      refine go_iret hC hF dX3_reason_55 rfl rfl ?_
      have hjt : sJ t y.2.2 = true := by
        rw [hj] at c28
        cases hb : sJ t y.2.2 with
        | true => rfl
        | false => rw [hb] at c28; exact absurd c28 (by decide)
      exact ⟨by simp only [reason, p2]; rw [if_pos hjt]; rfl, rfl⟩
theorem c_X3_stepsTo (hM : MRep G h m A f hs g) (hr : Row (g 1) t) (hw : WF c t) (x : Int32) {y : It} (hi : itm (sI t) x = some y) : CT G yX3_stepsTo cX3_stepsTo 2 (some .int) (rmL 5 0 0) [.ref m, .int x] h (fun v h' => v = some (.int (absI (way t y.2.2))) ∧ h = h') noX := by
  refine CT_of [some (.ref m), some (.int x)] (by decide +kernel) rfl (Nat.le_of_ble_eq_true rfl) (fun X hC hF hE => ?_)
  have hn := hw.n
  rcases pos_itm (sI t) x with ⟨p1, p2⟩ | ⟨i, y', p1, p2, p3, p4⟩
  · rw [p2] at hi; cases hi
  rw [hi] at p2
  cases p2
  have hil := (List.getElem?_eq_some_iff.mp p3).1
  obtain ⟨e0, e1, e2⟩ := hr.2.2.2.2.2.2 i y p3
  have hy2 := (hw.it p3).2
  refine go_aload_n hC dX3_stepsTo_0 rfl ?_
  refine go_aload_n hC dX3_stepsTo_1 rfl ?_
  refine go_aload_n hC dX3_stepsTo_2 rfl ?_
  refine go_iload_n hC dX3_stepsTo_3 rfl ?_
  refine go_callV0 hC (c_X3_placeOfItem hM hr hw x) (lw_V q1850 q1852 qs40 q83 q1853) hM.1 rfl dX3_stepsTo_4 1 rfl (by decide +kernel) rfl ⟨Nat.le_of_ble_eq_true rfl, Nat.le_of_ble_eq_true rfl⟩ (Nat.le_of_ble_eq_true rfl) ⟨rfl, rfl⟩ ?_
  rintro _ _ ⟨rfl, rfl⟩
  rw [p1]
  refine go_iconst hC (nI 2) dX3_stepsTo_7 (by decide) ?_
  refine go_callV0 hC (c_X3_of hM i 2 (by omega) (by omega)) (lw_V q1823 q1825 qs35 q83 q1826) hM.1 rfl dX3_stepsTo_8 2 rfl (by decide +kernel) rfl ⟨Nat.le_of_ble_eq_true rfl, Nat.le_of_ble_eq_true rfl⟩ (Nat.le_of_ble_eq_true rfl) ⟨rfl, rfl⟩ ?_
  rintro _ _ ⟨rfl, rfl⟩
  rw [e2]
  refine go_callV0 hC (c_X3_wayTo hM hr hw y.2.2 hy2) (lw_V q1862 q1864 qs42 q83 q1865) hM.1 rfl dX3_stepsTo_11 1 rfl (by decide +kernel) rfl ⟨Nat.le_of_ble_eq_true rfl, Nat.le_of_ble_eq_true rfl⟩ (Nat.le_of_ble_eq_true rfl) ⟨rfl, rfl⟩ ?_
  rintro _ _ ⟨rfl, rfl⟩
  refine go_callS0 hC (c_X3_size (way t y.2.2)) (lw_S q1878 q1879 q83 q1880) dX3_stepsTo_14 1 rfl (by decide +kernel) rfl ⟨Nat.le_of_ble_eq_true rfl, Nat.le_of_ble_eq_true rfl⟩ (Nat.le_of_ble_eq_true rfl) ⟨rfl, rfl⟩ ?_
  rintro _ _ ⟨rfl, rfl⟩
  refine go_iret hC hF dX3_stepsTo_17 rfl rfl ?_
  exact ⟨rfl, rfl⟩
theorem c_X3_greatestLoad (hM : MRep G h m A f hs g) (hr : Row (g 1) t) (hw : WF c t) : CT G yX3_greatestLoad cX3_greatestLoad 3 (some .int) (rmL 3 0 0) [.ref m] h (fun v h' => v = some (.int (top12 (ld (sI t)))) ∧ h = h') noX := by
  refine CT_of [some (.ref m), none, none] (by decide +kernel) rfl (Nat.le_of_ble_eq_true rfl) (fun X hC hF hE => ?_)
  have loop : ∀ (i : Nat) (a : Int32), i ≤ 12 → (List.range' i (12 - i)).foldl (fun a w => maxI a (ld (sI t) w)) a = top12 (ld (sI t)) → Go X G h 0 0 4 [some (.ref m), some (.int a), some (.int (nI i))] [] := by
    refine lpB (fun i _ => 12 - i) (fun i a ih hi ha => ?_)
    refine go_iload_n hC dX3_greatestLoad_4 rfl ?_
    refine go_bipush hC (nI 12) dX3_greatestLoad_5 (by decide) ?_
    refine go_N_ge hC 35 dX3_greatestLoad_7 (by decide) rfl rfl (by omega) (by omega) (fun c7 => ?_) (fun c7 => ?_)
    · rw [rg_e c7] at ha
      refine go_iload_n hC dX3_greatestLoad_35 rfl ?_
      refine go_iret hC hF dX3_greatestLoad_36 rfl rfl ?_
      exact ⟨by rw [← ha]; rfl, rfl⟩
    · rw [rg_c c7, List.foldl_cons] at ha
      refine go_aload_n hC dX3_greatestLoad_10 rfl ?_
      refine go_iload_n hC dX3_greatestLoad_11 rfl ?_
      refine go_callV0 hC (c_X3_loadOf hM hr hw i c7) (lw_V q1819 q1821 qs34 q83 q1822) hM.1 rfl dX3_greatestLoad_12 1 rfl (by decide +kernel) rfl ⟨Nat.le_of_ble_eq_true rfl, Nat.le_of_ble_eq_true rfl⟩ (Nat.le_of_ble_eq_true rfl) ⟨rfl, rfl⟩ ?_
      rintro _ _ ⟨rfl, rfl⟩
      refine go_iload_n hC dX3_greatestLoad_15 rfl ?_
      refine go_icmp_le hC 27 dX3_greatestLoad_16 (by decide) (fun c16 => ?_) (fun c16 => ?_)
      · refine go_iload_n hC dX3_greatestLoad_27 rfl ?_
        refine go_istore_n hC dX3_greatestLoad_28 (by decide) ?_
        refine go_iinc hC (v := nI (i + 1)) dX3_greatestLoad_29 rfl (nI_1 _) (by decide) ?_
        refine go_goto hC 4 dX3_greatestLoad_32 (by decide) ?_
        exact ih (i + 1) _ (by omega) (by omega) (by rw [← ha, maxI_l c16])
      · refine go_aload_n hC dX3_greatestLoad_19 rfl ?_
        refine go_iload_n hC dX3_greatestLoad_20 rfl ?_
        refine go_callV0 hC (c_X3_loadOf hM hr hw i c7) (lw_V q1819 q1821 qs34 q83 q1822) hM.1 rfl dX3_greatestLoad_21 1 rfl (by decide +kernel) rfl ⟨Nat.le_of_ble_eq_true rfl, Nat.le_of_ble_eq_true rfl⟩ (Nat.le_of_ble_eq_true rfl) ⟨rfl, rfl⟩ ?_
        rintro _ _ ⟨rfl, rfl⟩
        refine go_goto hC 28 dX3_greatestLoad_24 (by decide) ?_
        refine go_istore_n hC dX3_greatestLoad_28 (by decide) ?_
        refine go_iinc hC (v := nI (i + 1)) dX3_greatestLoad_29 rfl (nI_1 _) (by decide) ?_
        refine go_goto hC 4 dX3_greatestLoad_32 (by decide) ?_
        exact ih (i + 1) _ (by omega) (by omega) (by rw [← ha, maxI_r c16])
  refine go_iconst hC (0) dX3_greatestLoad_0 (by decide) ?_
  refine go_istore_n hC dX3_greatestLoad_1 (by decide) ?_
  refine go_iconst hC (0) dX3_greatestLoad_2 (by decide) ?_
  refine go_istore_n hC dX3_greatestLoad_3 (by decide) ?_
  exact loop 0 0 (Nat.zero_le _) rfl
theorem c_X3_loadOfAll (hM : MRep G h m A f hs g) (hr : Row (g 1) t) (hw : WF c t) : CT G yX3_loadOfAll cX3_loadOfAll 3 (some .int) (rmL 2 0 0) [.ref m] h (fun v h' => v = some (.int (alw (sI t))) ∧ h = h') noX := by
  refine CT_of [some (.ref m), none, none] (by decide +kernel) rfl (Nat.le_of_ble_eq_true rfl) (fun X hC hF hE => ?_)
  have hn := hw.n
  have h9 := hr.2.2.2.2.1
  have loop : ∀ (i : Nat) (a : Int32), i ≤ (sI t).length → ((sI t).drop i).foldl alf a = alw (sI t) → Go X G h 0 0 4 [some (.ref m), some (.int a), some (.int (nI i))] [] := by
    refine lpB (fun i _ => (sI t).length - i) (fun i a ih hi ha => ?_)
    refine go_iload_n hC dX3_loadOfAll_4 rfl ?_
    refine go_aload_n hC dX3_loadOfAll_5 rfl ?_
    refine go_get hC kX3 hM.1 1 q1753 dX3_loadOfAll_6 rfl (by decide) (Or.inl rfl) ?_
    refine go_bipush hC (nI 9) dX3_loadOfAll_9 (by decide) ?_
    refine go_iald hC 9 hM.2.1 dX3_loadOfAll_11 (by first | rfl | (simp only [nI_add, pk_mul, nI_1, Int32.add_zero]; done) | (simp only [nI_add, pk_mul, nI_1, Int32.add_zero]; exact congrArg nI (by omega))) (by omega) (by omega) ?_
    refine go_N_ge hC 30 dX3_loadOfAll_12 (by decide) rfl h9 (by omega) (by omega) (fun c12 => ?_) (fun c12 => ?_)
    · refine go_iload_n hC dX3_loadOfAll_30 rfl ?_
      refine go_iret hC hF dX3_loadOfAll_31 rfl rfl ?_
      rw [drop_end (by omega)] at ha
      exact ⟨by rw [← ha]; rfl, rfl⟩
    · obtain ⟨x, hx, hdr⟩ := get_of c12
      obtain ⟨e0, e1, e2⟩ := hr.2.2.2.2.2.2 i x hx
      rw [hdr, List.foldl_cons] at ha
      refine go_iload_n hC dX3_loadOfAll_15 rfl ?_
      refine go_aload_n hC dX3_loadOfAll_16 rfl ?_
      refine go_iload_n hC dX3_loadOfAll_17 rfl ?_
      refine go_iconst hC (1) dX3_loadOfAll_18 (by decide) ?_
      refine go_callV0 hC (c_X3_of hM i 1 (by omega) (by omega)) (lw_V q1823 q1825 qs35 q83 q1826) hM.1 rfl dX3_loadOfAll_19 2 rfl (by decide +kernel) rfl ⟨Nat.le_of_ble_eq_true rfl, Nat.le_of_ble_eq_true rfl⟩ (Nat.le_of_ble_eq_true rfl) ⟨rfl, rfl⟩ ?_
      rintro _ _ ⟨rfl, rfl⟩
      rw [e1]
      refine go_iadd hC dX3_loadOfAll_22 ?_
      refine go_istore_n hC dX3_loadOfAll_23 (by decide) ?_
      refine go_iinc hC (v := nI (i + 1)) dX3_loadOfAll_24 rfl (nI_1 _) (by decide) ?_
      refine go_goto hC 4 dX3_loadOfAll_27 (by decide) ?_
      exact ih (i + 1) _ (by omega) (by omega) ha
  refine go_iconst hC (0) dX3_loadOfAll_0 (by decide) ?_
  refine go_istore_n hC dX3_loadOfAll_1 (by decide) ?_
  refine go_iconst hC (0) dX3_loadOfAll_2 (by decide) ?_
  refine go_istore_n hC dX3_loadOfAll_3 (by decide) ?_
  exact loop 0 0 (Nat.zero_le _) rfl
theorem c_X3_jammed (hM : MRep G h m A f hs g) (hr : Row (g 1) t) : CT G yX3_jammed cX3_jammed 3 (some .int) (rmL 1 0 0) [.ref m] h (fun v h' => v = some (.int (jmn (sJ t))) ∧ h = h') noX := by
  refine CT_of [some (.ref m), none, none] (by decide +kernel) rfl (Nat.le_of_ble_eq_true rfl) (fun X hC hF hE => ?_)
  have loop : ∀ (i : Nat) (a : Int32), i ≤ 12 → (List.range' i (12 - i)).foldl (fun a d => a + bI (sJ t d)) a = jmn (sJ t) → Go X G h 0 0 4 [some (.ref m), some (.int a), some (.int (nI i))] [] := by
    refine lpB (fun i _ => 12 - i) (fun i a ih hi ha => ?_)
    refine go_iload_n hC dX3_jammed_4 rfl ?_
    refine go_bipush hC (nI 12) dX3_jammed_5 (by decide) ?_
    refine go_N_ge hC 28 dX3_jammed_7 (by decide) rfl rfl (by omega) (by omega) (fun c7 => ?_) (fun c7 => ?_)
    · rw [rg_e c7] at ha
      refine go_iload_n hC dX3_jammed_28 rfl ?_
      refine go_iret hC hF dX3_jammed_29 rfl rfl ?_
      exact ⟨by rw [← ha]; rfl, rfl⟩
    · rw [rg_c c7, List.foldl_cons] at ha
      have hj := hr.2.2.2.2.2.1 i c7
      refine go_iload_n hC dX3_jammed_10 rfl ?_
      refine go_aload_n hC dX3_jammed_11 rfl ?_
      refine go_get hC kX3 hM.1 1 q1753 dX3_jammed_12 rfl (by decide) (Or.inl rfl) ?_
      refine go_bipush hC (nI 10) dX3_jammed_15 (by decide) ?_
      refine go_iload_n hC dX3_jammed_17 rfl ?_
      refine go_iadd hC dX3_jammed_18 ?_
      refine go_iald hC (10+i) hM.2.1 dX3_jammed_19 (by first | rfl | (simp only [nI_add, pk_mul, nI_1, Int32.add_zero]; done) | (simp only [nI_add, pk_mul, nI_1, Int32.add_zero]; exact congrArg nI (by omega))) (by omega) (by omega) ?_
      rw [hj]
      refine go_iadd hC dX3_jammed_20 ?_
      refine go_istore_n hC dX3_jammed_21 (by decide) ?_
      refine go_iinc hC (v := nI (i + 1)) dX3_jammed_22 rfl (nI_1 _) (by decide) ?_
      refine go_goto hC 4 dX3_jammed_25 (by decide) ?_
      exact ih (i + 1) _ (by omega) (by omega) ha
  refine go_iconst hC (0) dX3_jammed_0 (by decide) ?_
  refine go_istore_n hC dX3_jammed_1 (by decide) ?_
  refine go_iconst hC (0) dX3_jammed_2 (by decide) ?_
  refine go_istore_n hC dX3_jammed_3 (by decide) ?_
  exact loop 0 0 (Nat.zero_le _) rfl
end M1b
