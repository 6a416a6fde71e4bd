/-! THE REFERENCE: its calls -/
set_option maxRecDepth 100000
/-- the whole picture of the reference -/
def MM (G : GT) (h : PH) (m : Nat) (A : Nat → Nat) (f : Nat → Int32) (hs : Int64) (g : Nat → Nat → Int32) (a : AS) : Prop :=
  MRep G h m A f hs g ∧ Row (g 1) a.1 ∧ f 4 = nI a.2.1.length ∧ (∀ (k : Nat) (u : St), a.2.1[k]? = some u → Row (fun j => g 3 (142 * k + j)) u) ∧ f 6 = nI a.2.2.length ∧ arL (g 5) a.2.2
def MQr (G : GT) (h : PH) (m : Nat) (a : AS) (k : Nat) : Prop := ∃ A f hs g, MM G h m A f hs g a ∧ f 0 = nI k
abbrev PMo (G : GT) (h : PH) (m : Nat) (r : Rs) (v : Option Value) (h' : PH) : Prop := v = some (.int r.2.1) ∧ MQr G h' m r.2.2 r.1 ∧ Mto h h' m
section M7
variable {G : GT} {h : PH} {m : Nat} {A : Nat → Nat} {f : Nat → Int32} {hs : Int64} {g : Nat → Nat → Int32} {a : AS} {c k : Nat}
theorem MM.st (hM : MM G h m A f hs g a) {X : Cx} {n k pc : Nat} {lv : List (Option Value)} {x : Int32} {rest : List Value} (kk : ∀ h1, MM G h1 m A (upd f 0 x) hs g a → Mto h h1 m → Go X G h1 k n pc lv rest) : Go X G (hu h m (m, 0) (ob 6 ((mfs A f hs).set 0 (.int x)))) k n pc lv rest := by
  obtain ⟨h1, h2, h3, h4, h5, h6⟩ := hM
  exact kk _ ⟨h1.uo rfl, h2, h3, h4, h5, h6⟩ (Mto.rf.st h1.1)
theorem MM.q (hM : MM G h m A f hs g a) {k : Nat} (e : f 0 = nI k) : MQr G h m a k := ⟨A, f, hs, g, hM, e⟩
theorem MM.fl {h2 : PH} {x : Int32} (hM : MM G h m A f hs g a) (h2M : MRep G h2 m A (upd f 0 x) hs g) {k : Nat} (e : x = nI k) : MQr G h2 m a k := by
  obtain ⟨h1, h2, h3, h4, h5, h6⟩ := hM
  exact ⟨A, upd f 0 x, hs, g, ⟨h2M, h2, h3, h4, h5, h6⟩, e⟩
theorem MM.s {h2 : PH} {s : Nat → Int32} {t : St} (hM : MM G h m A f hs g a) (h2M : MRep G h2 m A f hs (va_up g 1 s)) (hr : Row s t) : MM G h2 m A f hs (va_up g 1 s) (t, a.2.1, a.2.2) := by
  obtain ⟨h1, h2, h3, h4, h5, h6⟩ := hM
  exact ⟨h2M, hr, h3, h4, h5, h6⟩
theorem MM.r (hM : MM G h m A f hs g a) : Row (g 1) a.1 := hM.2.1
theorem c_X3_saves (hM : MM G h m A f hs g a) (hw : WFA c a) : CT G yX3_saves cX3_saves 2 none (rmL 1 0 0) [.ref m] h (fun v h' => v = none ∧ ∃ f' s3, MM G h' m A f' hs (va_up g 3 s3) (a.1, svd a, a.2.2) ∧ Mto h h' m ∧ ∀ q, q ≠ 4 → f' q = f q) noX := by
  refine CT_of [some (.ref m), none] (by decide +kernel) rfl (Nat.le_of_ble_eq_true rfl) (fun X hC hF hE => ?_)
  obtain ⟨hR, hr, h4, h3, h6, h5⟩ := hM
  have hlen := hw.2.2.1
  have tail : ∀ (l : List St) (h1 : PH) (f1 : Nat → Int32) (s3 : Nat → Int32) (z : Option Value), l.length ≤ 5 → svd a = l ++ [a.1] → (∀ u ∈ l, WF c u) → MRep G h1 m A f1 hs (va_up g 3 s3) → Mto h h1 m → (∀ q, q ≠ 4 → f1 q = f q) → f1 4 = nI l.length → (∀ (k : Nat) (u : St), l[k]? = some u → Row (fun j => s3 (142 * k + j)) u) → Go X G h1 0 0 50 [some (.ref m), z] [] := by
    intro l h1 f1 s3 z hl he hwl hM1 ht1 k0 k4 k3
    have loop : ∀ (i : Nat) (s : Nat → Int32), i ≤ 142 → (∀ j, j < i → s (142 * l.length + j) = g 1 j) → (∀ j, j < 142 * l.length → s j = s3 j) → Go X G (hu h1 (A 3) (m, 3) (ia G 852 s)) 0 0 52 [some (.ref m), some (.int (nI i))] [] := by
      refine lpB (fun i _ => 142 - i) (fun i s ih hi i1 i2 => ?_)
      have hM2 := hM1.u3 s
      rw [bx_uu] at hM2
      refine go_iload_n hC dX3_saves_52 rfl ?_
      refine go_sipush hC (nI 142) dX3_saves_53 (by decide) ?_
      refine go_N_ge hC 86 dX3_saves_56 (by decide) rfl rfl (by omega) (by omega) (fun c56 => ?_) (fun c56 => ?_)
      · have ht2 : Mto h (hu h1 (A 3) (m, 3) (ia G 852 s)) m := ht1.st hM1.2.2.2.1
        have hM3 : MRep G (hu (hu h1 (A 3) (m, 3) (ia G 852 s)) m (m, 0) (ob 6 ((mfs A f1 hs).set 4 (.int (f1 4 + 1))))) m A (upd f1 4 (f1 4 + 1)) hs (va_up g 3 s) := hM2.uo rfl
        have ht3 : Mto h (hu (hu h1 (A 3) (m, 3) (ia G 852 s)) m (m, 0) (ob 6 ((mfs A f1 hs).set 4 (.int (f1 4 + 1))))) m := ht2.st hM2.1
        refine go_aload_n hC dX3_saves_86 rfl ?_
        refine go_dup hC dX3_saves_87 rfl ?_
        refine go_get hC kX3 hM2.1 4 q1756 dX3_saves_88 rfl (by decide) (Or.inl rfl) ?_
        refine go_iconst hC (1) dX3_saves_91 (by decide) ?_
        refine go_iadd hC dX3_saves_92 ?_
        refine go_put hC kX3 hM2.1 4 q1756 dX3_saves_93 (by decide) (Nat.le_of_ble_eq_true rfl) (Or.inl rfl) rfl rfl rfl ?_
        refine go_vret hC hF dX3_saves_96 rfl ?_
        refine ⟨rfl, _, s, ⟨hM3, hr, ?_, ?_, ?_, h5⟩, ht3, fun q hq => by rw [pk_un hq]; exact k0 q hq⟩
        · show upd f1 4 (f1 4 + 1) 4 = nI (svd a).length
          rw [pk_us, k4, he, List.length_append, List.length_singleton, nI_1]
        · intro k u hk
          rw [he] at hk
          rcases Nat.lt_or_ge k l.length with q | q
          · rw [List.getElem?_append_left q] at hk
            refine Row_cg (k3 k u hk) (hwl u (List.mem_of_getElem? hk)).n (fun j hj => ?_)
            show s (142 * k + j) = _
            exact i2 _ (by omega)
          · have hk2 := (List.getElem?_eq_some_iff.mp hk).1
            rw [List.length_append, List.length_singleton] at hk2
            have hkl : k = l.length := by omega
            subst hkl
            rw [List.getElem?_append_right (Nat.le_refl _), Nat.sub_self] at hk
            cases hk
            refine Row_cg hr hw.1.n (fun j hj => ?_)
            show s (142 * l.length + j) = _
            exact i1 j (by omega)
        · show upd f1 4 (f1 4 + 1) 6 = _
          rw [pk_un (by decide), k0 6 (by decide)]; exact h6
      · refine go_aload_n hC dX3_saves_59 rfl ?_
        refine go_get hC kX3 hM2.1 3 q1755 dX3_saves_60 rfl (by decide) (Or.inl rfl) ?_
        refine go_sipush hC (nI 142) dX3_saves_63 (by decide) ?_
        refine go_aload_n hC dX3_saves_66 rfl ?_
        refine go_get hC kX3 hM2.1 4 q1756 dX3_saves_67 rfl (by decide) (Or.inl rfl) ?_
        rw [k4]
        refine go_imul hC dX3_saves_70 ?_
        refine go_iload_n hC dX3_saves_71 rfl ?_
        refine go_iadd hC dX3_saves_72 ?_
        refine go_aload_n hC dX3_saves_73 rfl ?_
        refine go_get hC kX3 hM2.1 1 q1753 dX3_saves_74 rfl (by decide) (Or.inl rfl) ?_
        refine go_iload_n hC dX3_saves_77 rfl ?_
        refine go_iald hC i hM2.2.1 dX3_saves_78 (by first | rfl | (simp only [nI_add, pk_mul, nI_1, Int32.add_zero]; done) | (simp only [nI_add, pk_mul, nI_1, Int32.add_zero]; exact congrArg nI (by omega))) (by omega) (by omega) ?_
        refine go_iast hC (142*l.length+i) hu_eq dX3_saves_79 (by first | rfl | (simp only [nI_add, pk_mul, nI_1, Int32.add_zero]; done) | (simp only [nI_add, pk_mul, nI_1, Int32.add_zero]; exact congrArg nI (by omega))) (by omega) (by omega) ?_
        rw [hu_hu]
        refine go_iinc hC (v := nI (i + 1)) dX3_saves_80 rfl (nI_1 _) (by decide) ?_
        refine go_goto hC 52 dX3_saves_83 (by decide) ?_
        refine ih (i + 1) _ (by omega) (by omega) (fun j hj => ?_) (fun j hj => ?_)
        · by_cases q : j = i
          · rw [q, pk_us]; rfl
          · rw [pk_un (by omega)]; exact i1 j (by omega)
        · rw [pk_un (by omega)]; exact i2 j hj
    have e0 : hu h1 (A 3) (m, 3) (ia G 852 s3) = h1 := hu_id hM1.2.2.2.1
    refine go_iconst hC (0) dX3_saves_50 (by decide) ?_
    refine go_istore_n hC dX3_saves_51 (by decide) ?_
    rw [← e0]
    exact loop 0 s3 (Nat.zero_le _) (fun j hj => absurd hj (Nat.not_lt_zero _)) (fun _ _ => rfl)
  have e3 : va_up g 3 (g 3) = g := by funext q; by_cases z : q = 3 <;> simp [va_up, z]
  by_cases q6 : a.2.1.length = 6
  · have loop : ∀ (i : Nat) (s : Nat → Int32), i ≤ 710 → (∀ j, j < i → s j = g 3 (j + 142)) → (∀ j, i ≤ j → s j = g 3 j) → Go X G (hu h (A 3) (m, 3) (ia G 852 s)) 0 0 11 [some (.ref m), some (.int (nI i))] [] := by
      refine lpB (fun i _ => 710 - i) (fun i s ih hi i1 i2 => ?_)
      have hM2 := hR.u3 s
      refine go_iload_n hC dX3_saves_11 rfl ?_
      refine go_sipush hC (nI 710) dX3_saves_12 (by decide) ?_
      refine go_N_ge hC 40 dX3_saves_15 (by decide) rfl rfl (by omega) (by omega) (fun c15 => ?_) (fun c15 => ?_)
      · have ht2 : Mto h (hu h (A 3) (m, 3) (ia G 852 s)) m := Mto.rf.st hR.2.2.2.1
        have hM3 : MRep G (hu (hu h (A 3) (m, 3) (ia G 852 s)) m (m, 0) (ob 6 ((mfs A f hs).set 4 (.int (f 4 - 1))))) m A (upd f 4 (f 4 - 1)) hs (va_up g 3 s) := hM2.uo rfl
        have ht3 : Mto h (hu (hu h (A 3) (m, 3) (ia G 852 s)) m (m, 0) (ob 6 ((mfs A f hs).set 4 (.int (f 4 - 1))))) m := ht2.st hM2.1
        have es : svd a = a.2.1.drop 1 ++ [a.1] := by unfold svd; rw [if_pos q6]
        refine go_aload_n hC dX3_saves_40 rfl ?_
        refine go_dup hC dX3_saves_41 rfl ?_
        refine go_get hC kX3 hM2.1 4 q1756 dX3_saves_42 rfl (by decide) (Or.inl rfl) ?_
        refine go_iconst hC (1) dX3_saves_45 (by decide) ?_
        refine go_isub hC dX3_saves_46 ?_
        refine go_put hC kX3 hM2.1 4 q1756 dX3_saves_47 (by decide) (Nat.le_of_ble_eq_true rfl) (Or.inl rfl) rfl rfl rfl ?_
        refine tail (a.2.1.drop 1) _ _ s _ (by rw [List.length_drop]; omega) es (fun u hu => hw.2.1 u (List.mem_of_mem_drop hu)) hM3 ht3 (fun q hq => pk_un hq) ?_ (fun k u hk => ?_)
        · show upd f 4 (f 4 - 1) 4 = _
          rw [pk_us, h4, List.length_drop, q6]; decide
        · rw [List.getElem?_drop] at hk
          have hk2 := (List.getElem?_eq_some_iff.mp hk).1
          refine Row_cg (h3 _ u hk) (hw.2.1 u (List.mem_of_getElem? hk)).n (fun j hj => ?_)
          show s (142 * k + j) = g 3 (142 * (1 + k) + j)
          rw [i1 _ (by omega)]
          exact congrArg (g 3) (by omega)
      · refine go_aload_n hC dX3_saves_18 rfl ?_
        refine go_get hC kX3 hM2.1 3 q1755 dX3_saves_19 rfl (by decide) (Or.inl rfl) ?_
        refine go_iload_n hC dX3_saves_22 rfl ?_
        refine go_aload_n hC dX3_saves_23 rfl ?_
        refine go_get hC kX3 hM2.1 3 q1755 dX3_saves_24 rfl (by decide) (Or.inl rfl) ?_
        refine go_iload_n hC dX3_saves_27 rfl ?_
        refine go_sipush hC (nI 142) dX3_saves_28 (by decide) ?_
        refine go_iadd hC dX3_saves_31 ?_
        refine go_iald hC (i+142) hM2.2.2.2.1 dX3_saves_32 (by first | rfl | (simp only [nI_add, pk_mul, nI_1, Int32.add_zero]; done) | (simp only [nI_add, pk_mul, nI_1, Int32.add_zero]; exact congrArg nI (by omega))) (by omega) (by omega) ?_
        refine go_iast hC i hu_eq dX3_saves_33 (by first | rfl | (simp only [nI_add, pk_mul, nI_1, Int32.add_zero]; done) | (simp only [nI_add, pk_mul, nI_1, Int32.add_zero]; exact congrArg nI (by omega))) (by omega) (by omega) ?_
        rw [hu_hu]
        refine go_iinc hC (v := nI (i + 1)) dX3_saves_34 rfl (nI_1 _) (by decide) ?_
        refine go_goto hC 11 dX3_saves_37 (by decide) ?_
        refine ih (i + 1) _ (by omega) (by omega) (fun j hj => ?_) (fun j hj => ?_)
        · by_cases q : j = i
          · rw [q, pk_us]; exact i2 _ (by omega)
          · rw [pk_un q]; exact i1 j (by omega)
        · rw [pk_un (by omega)]; exact i2 j (by omega)
    have e0 : hu h (A 3) (m, 3) (ia G 852 (g 3)) = h := hu_id hR.2.2.2.1
    refine go_aload_n hC dX3_saves_0 rfl ?_
    refine go_get hC kX3 hR.1 4 q1756 dX3_saves_1 rfl (by decide) (Or.inl rfl) ?_
    refine go_bipush hC (nI 6) dX3_saves_4 (by decide) ?_
    refine go_N_ne hC 50 dX3_saves_6 (by decide) h4 rfl (by omega) (by omega) (fun z => absurd z (fun y => y q6)) (fun c6 => ?_)
    refine go_iconst hC (0) dX3_saves_9 (by decide) ?_
    refine go_istore_n hC dX3_saves_10 (by decide) ?_
    rw [← e0]
    exact loop 0 (g 3) (Nat.zero_le _) (fun j hj => absurd hj (Nat.not_lt_zero _)) (fun _ _ => rfl)
  · have es : svd a = a.2.1 ++ [a.1] := by unfold svd; rw [if_neg q6]
    refine go_aload_n hC dX3_saves_0 rfl ?_
    refine go_get hC kX3 hR.1 4 q1756 dX3_saves_1 rfl (by decide) (Or.inl rfl) ?_
    refine go_bipush hC (nI 6) dX3_saves_4 (by decide) ?_
    refine go_N_ne hC 50 dX3_saves_6 (by decide) h4 rfl (by omega) (by omega) (fun c6 => ?_) (fun z => absurd z q6)
    exact tail a.2.1 h f (g 3) _ (by omega) es hw.2.1 (by rw [e3]; exact hR) Mto.rf (fun _ _ => rfl) h4 h3
theorem c_X3_put (hQ : MQr G h m a k) (hw : WFA c a) (hc : c ≤ 64) (d v : Int32) : CT G yX3_put cX3_put 4 (some .int) (rmL 12 0 0) [.ref m, .int d, .int v] h (fun z h' => PMo G h m (oPut a d v) z h') noX := by
  obtain ⟨A, f, hs, g, hM, -⟩ := hQ
  refine CT_of [some (.ref m), some (.int d), some (.int v), none] (by decide +kernel) rfl (Nat.le_of_ble_eq_true rfl) (fun X hC hF hE => ?_)
  refine go_aload_n hC dX3_put_0 rfl ?_
  refine go_iconst hC (0) dX3_put_1 (by decide) ?_
  refine go_put hC kX3 hM.1.1 0 q1752 dX3_put_2 (by decide) (Nat.le_of_ble_eq_true rfl) (Or.inl rfl) rfl rfl rfl ?_
  refine hM.st (fun h1 hM1 ht1 => ?_)
  refine go_iload_n hC dX3_put_5 rfl ?_
  refine go_callS0 hC (c_X3_isDrawer d) (lw_S q1809 q1810 q83 q1811) dX3_put_6 1 rfl (by decide +kernel) rfl ⟨Nat.le_of_ble_eq_true rfl, Nat.le_of_ble_eq_true rfl⟩ (Nat.le_of_ble_eq_true rfl) ⟨rfl, rfl⟩ ?_
  rintro _ _ ⟨rfl, rfl⟩
  refine go_B_ne hC 18 dX3_put_9 (by decide) rfl (fun c9 => ?_) (fun c9 => ?_)
  rotate_left
  · refine go_aload_n hC dX3_put_12 rfl ?_
    refine go_iconst hC (1) dX3_put_13 (by decide) ?_
    refine go_callV0 hC (c_X3_fails hM1.1 1) (lw_V q1815 q1817 qs33 q83 q1818) hM1.1.1 rfl dX3_put_14 1 rfl (by decide +kernel) rfl ⟨Nat.le_of_ble_eq_true rfl, Nat.le_of_ble_eq_true rfl⟩ (Nat.le_of_ble_eq_true rfl) ⟨rfl, rfl⟩ ?_
    rintro _ h2 ⟨rfl, hM2, ht2⟩
    refine go_iret hC hF dX3_put_17 rfl rfl ?_
    rw [show oPut a d v = (1, 0, a) from if_pos c9]
    exact ⟨rfl, hM1.fl hM2 rfl, ht1.tr ht2⟩
  obtain ⟨j, j1, j2, j3⟩ := inB_0 (b := 11) (by omega) c9
  refine go_iload_n hC dX3_put_18 rfl ?_
  refine go_iconst hC (1) dX3_put_19 (by decide) ?_
  refine go_bipush hC (nI 20) dX3_put_20 (by decide) ?_
  refine go_callS0 hC (c_X3_in v 1 (nI 20)) (lw_S q1812 q1813 q83 q1814) dX3_put_22 3 rfl (by decide +kernel) rfl ⟨Nat.le_of_ble_eq_true rfl, Nat.le_of_ble_eq_true rfl⟩ (Nat.le_of_ble_eq_true rfl) ⟨rfl, rfl⟩ ?_
  rintro _ _ ⟨rfl, rfl⟩
  refine go_B_ne hC 34 dX3_put_25 (by decide) rfl (fun c25 => ?_) (fun c25 => ?_)
  rotate_left
  · refine go_aload_n hC dX3_put_28 rfl ?_
    refine go_iconst hC (nI 2) dX3_put_29 (by decide) ?_
    refine go_callV0 hC (c_X3_fails hM1.1 (nI 2)) (lw_V q1815 q1817 qs33 q83 q1818) hM1.1.1 rfl dX3_put_30 1 rfl (by decide +kernel) rfl ⟨Nat.le_of_ble_eq_true rfl, Nat.le_of_ble_eq_true rfl⟩ (Nat.le_of_ble_eq_true rfl) ⟨rfl, rfl⟩ ?_
    rintro _ h2 ⟨rfl, hM2, ht2⟩
    refine go_iret hC hF dX3_put_33 rfl rfl ?_
    rw [show oPut a d v = (2, 0, a) by unfold oPut; rw [if_neg (fun q => absurd (q.symm.trans c9) (by decide)), if_pos c25]]
    exact ⟨rfl, hM1.fl hM2 rfl, ht1.tr ht2⟩
  have hu : oPut a d v = if mayP a.1 j v = true then (0, nI (sC a.1), (puS a.1 j v, svd a, a.2.2)) else (3, 0, a) := by
    unfold oPut
    rw [if_neg (fun q => absurd (q.symm.trans c9) (by decide)), if_neg (fun q => absurd (q.symm.trans c25) (by decide)), j3]
  have hl := hw.1.n
  have r9 : g 1 9 = nI (sI a.1).length := hM.r.2.2.2.2.1
  have r8 : g 1 8 = nI (sC a.1) := hM.r.2.2.2.1
  have r3 : g 1 3 = nI (sW a.1) := hM.r.2.1
  subst j2
  have no : ¬ mayP a.1 j v = true → Go X G h1 0 0 75 [some (.ref m), some (.int (nI j)), some (.int v), none] [] := by
    intro q
    refine go_aload_n hC dX3_put_75 rfl ?_
    refine go_iconst hC (nI 3) dX3_put_76 (by decide) ?_
    refine go_callV0 hC (c_X3_fails hM1.1 (nI 3)) (lw_V q1815 q1817 qs33 q83 q1818) hM1.1.1 rfl dX3_put_77 1 rfl (by decide +kernel) rfl ⟨Nat.le_of_ble_eq_true rfl, Nat.le_of_ble_eq_true rfl⟩ (Nat.le_of_ble_eq_true rfl) ⟨rfl, rfl⟩ ?_
    rintro _ h2 ⟨rfl, hM2, ht2⟩
    refine go_iret hC hF dX3_put_80 rfl rfl ?_
    rw [hu, if_neg q]
    exact ⟨rfl, hM1.fl hM2 rfl, ht1.tr ht2⟩
  refine go_aload_n hC dX3_put_34 rfl ?_
  refine go_get hC kX3 hM1.1.1 1 q1753 dX3_put_35 rfl (by decide) (Or.inl rfl) ?_
  refine go_bipush hC (nI 9) dX3_put_38 (by decide) ?_
  refine go_iald hC 9 hM1.1.2.1 dX3_put_40 (by first | rfl | (simp only [nI_add, pk_mul, nI_1, Int32.add_zero]; done) | (simp only [nI_add, pk_mul, nI_1, Int32.add_zero]; exact congrArg nI (by omega))) (by omega) (by omega) ?_
  refine go_bipush hC (nI 40) dX3_put_41 (by decide) ?_
  refine go_N_eq hC 75 dX3_put_43 (by decide) r9 rfl (by omega) (by omega) (fun c43 => ?_) (fun c43 => ?_)
  · exact no (fun q => (of_decide_eq_true q).1 c43)
  have hC0 := hw.1.2.1
  refine go_aload_n hC dX3_put_46 rfl ?_
  refine go_get hC kX3 hM1.1.1 1 q1753 dX3_put_47 rfl (by decide) (Or.inl rfl) ?_
  refine go_bipush hC (nI 8) dX3_put_50 (by decide) ?_
  refine go_iald hC 8 hM1.1.2.1 dX3_put_52 (by first | rfl | (simp only [nI_add, pk_mul, nI_1, Int32.add_zero]; done) | (simp only [nI_add, pk_mul, nI_1, Int32.add_zero]; exact congrArg nI (by omega))) (by omega) (by omega) ?_
  refine go_sipush hC (nI 1000) dX3_put_53 (by decide) ?_
  refine go_N_eq hC 75 dX3_put_56 (by decide) r8 rfl (by omega) (by omega) (fun c56 => ?_) (fun c56 => ?_)
  · exact no (fun q => (of_decide_eq_true q).2.1 c56)
  refine go_aload_n hC dX3_put_59 rfl ?_
  refine go_iload_n hC dX3_put_60 rfl ?_
  refine go_callV0 hC (c_X3_loadOf hM1.1 hM1.r hw.1 j (by omega)) (lw_V q1819 q1821 qs34 q83 q1822) hM1.1.1 rfl dX3_put_61 1 rfl (by decide +kernel) rfl ⟨Nat.le_of_ble_eq_true rfl, Nat.le_of_ble_eq_true rfl⟩ (Nat.le_of_ble_eq_true rfl) ⟨rfl, rfl⟩ ?_
  rintro _ _ ⟨rfl, rfl⟩
  refine go_iload_n hC dX3_put_64 rfl ?_
  refine go_iadd hC dX3_put_65 ?_
  refine go_aload_n hC dX3_put_66 rfl ?_
  refine go_get hC kX3 hM1.1.1 1 q1753 dX3_put_67 rfl (by decide) (Or.inl rfl) ?_
  refine go_iconst hC (1) dX3_put_70 (by decide) ?_
  refine go_iald hC 1 hM1.1.2.1 dX3_put_71 (by first | rfl | (simp only [nI_add, pk_mul, nI_1, Int32.add_zero]; done) | (simp only [nI_add, pk_mul, nI_1, Int32.add_zero]; exact congrArg nI (by omega))) (by omega) (by omega) ?_
  rw [show g 1 1 = sN a.1 1 from hM1.r.1 1 (by omega)]
  refine go_icmp_le hC 81 dX3_put_72 (by decide) (fun c72 => ?_) (fun c72 => ?_)
  rotate_left
  · exact no (fun q => c72 (of_decide_eq_true q).2.2.1)
  have hl2 : (sI a.1).length < 40 := by omega
  have hwd : WD (com a.1 (sC a.1, v, j)) := by
    refine ⟨by show (_ ++ [_]).length ≤ 40; rw [List.length_append, List.length_singleton]; omega, fun x hx => ?_⟩
    rcases List.mem_append.mp hx with q | q
    · exact hw.1.d.2 x q
    · rw [List.mem_singleton.mp q]; show j < 12; omega
  refine go_aload_n hC dX3_put_81 rfl ?_
  refine go_aload_n hC dX3_put_82 rfl ?_
  refine go_get hC kX3 hM1.1.1 1 q1753 dX3_put_83 rfl (by decide) (Or.inl rfl) ?_
  refine go_bipush hC (nI 8) dX3_put_86 (by decide) ?_
  refine go_iald hC 8 hM1.1.2.1 dX3_put_88 (by first | rfl | (simp only [nI_add, pk_mul, nI_1, Int32.add_zero]; done) | (simp only [nI_add, pk_mul, nI_1, Int32.add_zero]; exact congrArg nI (by omega))) (by omega) (by omega) ?_
  rw [r8]
  refine go_iload_n hC dX3_put_89 rfl ?_
  refine go_iload_n hC dX3_put_90 rfl ?_
  refine go_callV0 hC (c_X3_comes hM1.1 hM1.r (sC a.1) j v hl2) (lw_V q1827 q1829 qs36 q83 q1830) hM1.1.1 rfl dX3_put_91 3 rfl (by decide +kernel) rfl ⟨Nat.le_of_ble_eq_true rfl, Nat.le_of_ble_eq_true rfl⟩ (Nat.le_of_ble_eq_true rfl) ⟨rfl, rfl⟩ ?_
  rintro _ _ ⟨rfl, s2, rfl, hs2⟩
  refine go_aload_n hC dX3_put_94 rfl ?_
  refine go_aload_n hC dX3_put_95 rfl ?_
  refine go_get hC kX3 (hM1.1.s s2).1 1 q1753 dX3_put_96 rfl (by decide) (Or.inl rfl) ?_
  refine go_iconst hC (nI 3) dX3_put_99 (by decide) ?_
  refine go_iald hC 3 (hM1.1.s s2).2.1 dX3_put_100 (by first | rfl | (simp only [nI_add, pk_mul, nI_1, Int32.add_zero]; done) | (simp only [nI_add, pk_mul, nI_1, Int32.add_zero]; exact congrArg nI (by omega))) (by omega) (by omega) ?_
  rw [show va_up g 1 s2 1 3 = nI (sW a.1) from hs2.2.1]
  refine go_callV0 hC (c_X3_imbalance (hM1.1.s s2) hs2 hwd (sW a.1) hw.1.w) (lw_V q1831 q1833 qs37 q83 q1834) (hM1.1.s s2).1 rfl dX3_put_101 1 rfl (by decide +kernel) rfl ⟨Nat.le_of_ble_eq_true rfl, Nat.le_of_ble_eq_true rfl⟩ (Nat.le_of_ble_eq_true rfl) ⟨rfl, rfl⟩ ?_
  rintro _ _ ⟨rfl, rfl⟩
  refine go_aload_n hC dX3_put_104 rfl ?_
  refine go_get hC kX3 (hM1.1.s s2).1 1 q1753 dX3_put_105 rfl (by decide) (Or.inl rfl) ?_
  refine go_iconst hC (0) dX3_put_108 (by decide) ?_
  refine go_iald hC 0 (hM1.1.s s2).2.1 dX3_put_109 (by first | rfl | (simp only [nI_add, pk_mul, nI_1, Int32.add_zero]; done) | (simp only [nI_add, pk_mul, nI_1, Int32.add_zero]; exact congrArg nI (by omega))) (by omega) (by omega) ?_
  rw [show va_up g 1 s2 1 0 = sN a.1 0 from hs2.1 0 (by omega)]
  have hM2 := hM1.1.s s2
  have ht2 : Mto h (hS G h1 m A s2) m := ht1.st hM1.1.2.1
  have hlc : (sI (com a.1 (sC a.1, v, j))).length = (sI a.1).length + 1 := by show (_ ++ [_]).length = _; rw [List.length_append, List.length_singleton]
  have fin : ∀ (b : Bool), b = decide (imb (sI a.1 ++ [(sC a.1, v, j)]) (sW a.1) ≤ sN a.1 0) → Go X G (hS G h1 m A s2) 0 0 118 [some (.ref m), some (.int (nI j)), some (.int v), none] [.int (bI b)] := by
    intro b hb
    have hm : mayP a.1 j v = b := by
      rw [hb]
      unfold mayP
      exact decide_eq_decide.mpr ⟨fun q => q.2.2.2, fun q => ⟨c43, c56, c72, q⟩⟩
    refine go_istore_n hC dX3_put_118 (by decide) ?_
    refine go_aload_n hC dX3_put_119 rfl ?_
    refine go_aload_n hC dX3_put_120 rfl ?_
    refine go_get hC kX3 hM2.1 1 q1753 dX3_put_121 rfl (by decide) (Or.inl rfl) ?_
    refine go_bipush hC (nI 9) dX3_put_124 (by decide) ?_
    refine go_iald hC 9 hM2.2.1 dX3_put_126 (by first | rfl | (simp only [nI_add, pk_mul, nI_1, Int32.add_zero]; done) | (simp only [nI_add, pk_mul, nI_1, Int32.add_zero]; exact congrArg nI (by omega))) (by omega) (by omega) ?_
    refine go_iconst hC (1) dX3_put_127 (by decide) ?_
    refine go_isub hC dX3_put_128 ?_
    have e9 : va_up g 1 s2 1 9 - 1 = nI (sI a.1).length := by
      rw [show va_up g 1 s2 1 9 = nI (sI (com a.1 (sC a.1, v, j))).length from hs2.2.2.2.2.1, hlc]
      exact pk_sub (a := (sI a.1).length + 1) (b := 1) (by omega)
    rw [e9]
    refine go_callV0 hC (c_X3_goes hM2 hs2 hwd (sI a.1).length (by omega)) (lw_V q1838 q1840 qs38 q83 q1841) hM2.1 rfl dX3_put_129 1 rfl (by decide +kernel) rfl ⟨Nat.le_of_ble_eq_true rfl, Nat.le_of_ble_eq_true rfl⟩ (Nat.le_of_ble_eq_true rfl) ⟨rfl, rfl⟩ ?_
    rintro _ _ ⟨rfl, s4, rfl, hs4⟩
    rw [gos_com] at hs4
    have hM4 := hM2.s s4
    rw [bx_uu] at hM4
    have ht4 : Mto h (hS G (hS G h1 m A s2) m A s4) m := ht2.st hM2.2.1
    generalize hS G (hS G h1 m A s2) m A s4 = h4 at hM4 ht4
    have hA4 : MM G h4 m A (upd f 0 0) hs (va_up g 1 s4) a := hM1.s hM4 hs4
    refine go_iload_n hC dX3_put_132 rfl ?_
    refine go_B_ne hC 142 dX3_put_133 (by decide) rfl (fun c133 => ?_) (fun c133 => ?_)
    rotate_left
    · refine go_aload_n hC dX3_put_136 rfl ?_
      refine go_iconst hC (nI 3) dX3_put_137 (by decide) ?_
      refine go_callV0 hC (c_X3_fails hM4 (nI 3)) (lw_V q1815 q1817 qs33 q83 q1818) hM4.1 rfl dX3_put_138 1 rfl (by decide +kernel) rfl ⟨Nat.le_of_ble_eq_true rfl, Nat.le_of_ble_eq_true rfl⟩ (Nat.le_of_ble_eq_true rfl) ⟨rfl, rfl⟩ ?_
      rintro _ h5 ⟨rfl, hM5, ht5⟩
      refine go_iret hC hF dX3_put_141 rfl rfl ?_
      rw [hu, if_neg (fun q => absurd (c133.symm.trans (hm.symm.trans q)) (by decide))]
      exact ⟨rfl, hA4.fl hM5 rfl, ht4.tr ht5⟩
    refine go_aload_n hC dX3_put_142 rfl ?_
    refine go_callV0 hC (c_X3_saves hA4 hw) (lw_V q1842 q1844 qs39 q83 q1845) hM4.1 rfl dX3_put_143 0 rfl (by decide +kernel) rfl ⟨Nat.le_of_ble_eq_true rfl, Nat.le_of_ble_eq_true rfl⟩ (Nat.le_of_ble_eq_true rfl) ⟨rfl, rfl⟩ ?_
    rintro _ h5 ⟨rfl, f5, s5, hA5, ht5, k5⟩
    refine go_aload_n hC dX3_put_146 rfl ?_
    refine go_aload_n hC dX3_put_147 rfl ?_
    refine go_get hC kX3 hA5.1.1 1 q1753 dX3_put_148 rfl (by decide) (Or.inl rfl) ?_
    refine go_bipush hC (nI 8) dX3_put_151 (by decide) ?_
    refine go_iald hC 8 hA5.1.2.1 dX3_put_153 (by first | rfl | (simp only [nI_add, pk_mul, nI_1, Int32.add_zero]; done) | (simp only [nI_add, pk_mul, nI_1, Int32.add_zero]; exact congrArg nI (by omega))) (by omega) (by omega) ?_
    rw [show va_up (va_up g 1 s4) 3 s5 1 8 = nI (sC a.1) from hA5.r.2.2.2.1]
    refine go_iload_n hC dX3_put_154 rfl ?_
    refine go_iload_n hC dX3_put_155 rfl ?_
    refine go_callV0 hC (c_X3_comes hA5.1 hA5.r (sC a.1) j v hl2) (lw_V q1827 q1829 qs36 q83 q1830) hA5.1.1 rfl dX3_put_156 3 rfl (by decide +kernel) rfl ⟨Nat.le_of_ble_eq_true rfl, Nat.le_of_ble_eq_true rfl⟩ (Nat.le_of_ble_eq_true rfl) ⟨rfl, rfl⟩ ?_
    rintro _ _ ⟨rfl, s6, rfl, hs6⟩
    refine go_aload_n hC dX3_put_159 rfl ?_
    refine go_get hC kX3 (hA5.1.s s6).1 1 q1753 dX3_put_160 rfl (by decide) (Or.inl rfl) ?_
    refine go_bipush hC (nI 8) dX3_put_163 (by decide) ?_
    refine go_dup2 hC dX3_put_165 rfl rfl ?_
    refine go_iald hC 8 (hA5.1.s s6).2.1 dX3_put_166 (by first | rfl | (simp only [nI_add, pk_mul, nI_1, Int32.add_zero]; done) | (simp only [nI_add, pk_mul, nI_1, Int32.add_zero]; exact congrArg nI (by omega))) (by omega) (by omega) ?_
    rw [show va_up (va_up (va_up g 1 s4) 3 s5) 1 s6 1 8 = nI (sC a.1) from hs6.2.2.2.1]
    refine go_iconst hC (1) dX3_put_167 (by decide) ?_
    refine go_iadd hC dX3_put_168 ?_
    refine go_iast hC 8 (hA5.1.s s6).2.1 dX3_put_169 (by first | rfl | (simp only [nI_add, pk_mul, nI_1, Int32.add_zero]; done) | (simp only [nI_add, pk_mul, nI_1, Int32.add_zero]; exact congrArg nI (by omega))) (by omega) (by omega) ?_
    rw [hu_hu]
    refine go_aload_n hC dX3_put_170 rfl ?_
    refine go_get hC kX3 (hA5.1.s (upd s6 8 (nI (sC a.1) + 1))).1 1 q1753 dX3_put_171 rfl (by decide) (Or.inl rfl) ?_
    refine go_bipush hC (nI 8) dX3_put_174 (by decide) ?_
    refine go_iald hC 8 (hA5.1.s (upd s6 8 (nI (sC a.1) + 1))).2.1 dX3_put_176 (by first | rfl | (simp only [nI_add, pk_mul, nI_1, Int32.add_zero]; done) | (simp only [nI_add, pk_mul, nI_1, Int32.add_zero]; exact congrArg nI (by omega))) (by omega) (by omega) ?_
    refine go_iconst hC (1) dX3_put_177 (by decide) ?_
    refine go_isub hC dX3_put_178 ?_
    refine go_iret hC hF dX3_put_179 rfl rfl ?_
    have hM7 := hA5.1.s (upd s6 8 (nI (sC a.1) + 1))
    have e7 : va_up (va_up (va_up g 1 s4) 3 s5) 1 (upd s6 8 (nI (sC a.1) + 1)) 1 8 = nI (sC a.1 + 1) := by
      exact (pk_us (f := s6) (k := 8) (x := nI (sC a.1) + 1)).trans (nI_1 _)
    rw [hu, if_pos (hm.trans c133)]
    have hr7 : Row (upd s6 8 (nI (sC a.1) + 1)) (puS a.1 j v) := by
      obtain ⟨z1, z2, z3, z4, z5, z6, z7⟩ := hs6
      refine ⟨fun q hq => by rw [pk_un (by omega)]; exact z1 q hq, by rw [pk_un (by omega)]; exact z2, fun q q1 q2 => by rw [pk_un (by omega)]; exact z3 q q1 q2, by rw [pk_us, nI_1]; rfl, by rw [pk_un (by omega)]; exact z5, fun q hq => by rw [pk_un (by omega)]; exact z6 q hq, fun i x hx => ?_⟩
      rw [pk_un (by omega), pk_un (by omega), pk_un (by omega)]
      exact z7 i x hx
    refine ⟨?_, ⟨A, f5, hs, _, hA5.s hM7 hr7, (k5 0 (by decide)).trans rfl⟩, (ht4.tr ht5).tr (Mto.rf.st hA5.1.2.1)⟩
    rw [e7]
    exact congrArg some (congrArg Value.int (pk_sub (a := sC a.1 + 1) (b := 1) (by omega)))
  by_cases q : imb (sI a.1 ++ [(sC a.1, v, j)]) (sW a.1) ≤ sN a.1 0
  · refine go_icmp_gt hC 117 dX3_put_110 (by decide) (fun z => absurd z (i32_nlt.mpr q)) (fun _ => ?_)
    refine go_iconst hC (1) dX3_put_113 (by decide) ?_
    refine go_goto hC 118 dX3_put_114 (by decide) ?_
    exact fin true (decide_eq_true q).symm
  · refine go_icmp_gt hC 117 dX3_put_110 (by decide) (fun _ => ?_) (fun z => absurd (i32_nle.mp q) z)
    refine go_iconst hC (0) dX3_put_117 (by decide) ?_
    exact fin false (decide_eq_false q).symm
theorem c_X3_pick (hQ : MQr G h m a k) (hw : WFA c a) (x : Int32) : CT G yX3_pick cX3_pick 3 (some .int) (rmL 12 0 0) [.ref m, .int x] h (fun z h' => PMo G h m (oPick a x) z h') noX := by
  obtain ⟨A, f, hs, g, hM, -⟩ := hQ
  refine CT_of [some (.ref m), some (.int x), none] (by decide +kernel) rfl (Nat.le_of_ble_eq_true rfl) (fun X hC hF hE => ?_)
  refine go_aload_n hC dX3_pick_0 rfl ?_
  refine go_iconst hC (0) dX3_pick_1 (by decide) ?_
  refine go_put hC kX3 hM.1.1 0 q1752 dX3_pick_2 (by decide) (Nat.le_of_ble_eq_true rfl) (Or.inl rfl) rfl rfl rfl ?_
  refine hM.st (fun h1 hM1 ht1 => ?_)
  refine go_aload_n hC dX3_pick_5 rfl ?_
  refine go_iload_n hC dX3_pick_6 rfl ?_
  refine go_callV0 hC (c_X3_reason hM1.1 hM1.r hw.1 x) (lw_V q1858 q1860 qs41 q83 q1861) hM1.1.1 rfl dX3_pick_7 1 rfl (by decide +kernel) rfl ⟨Nat.le_of_ble_eq_true rfl, Nat.le_of_ble_eq_true rfl⟩ (Nat.le_of_ble_eq_true rfl) ⟨rfl, rfl⟩ ?_
  rintro _ _ ⟨rfl, rfl⟩
  refine go_istore_n hC dX3_pick_10 (by decide) ?_
  refine go_iload_n hC dX3_pick_11 rfl ?_
  refine go_if_eq hC 30 dX3_pick_12 (by decide) (fun c12 => ?_) (fun c12 => ?_)
  rotate_left
  · have hu : oPick a x = (if reason a.1 x = 1 then 1 else 2, 0, a) := by unfold oPick; rw [if_neg c12]
    refine go_aload_n hC dX3_pick_15 rfl ?_
    refine go_iload_n hC dX3_pick_16 rfl ?_
    refine go_iconst hC (1) dX3_pick_17 (by decide) ?_
    refine go_icmp_ne hC 25 dX3_pick_18 (by decide) (fun c18 => ?_) (fun c18 => ?_)
    · refine go_iconst hC (nI 2) dX3_pick_25 (by decide) ?_
      refine go_callV0 hC (c_X3_fails hM1.1 (nI 2)) (lw_V q1815 q1817 qs33 q83 q1818) hM1.1.1 rfl dX3_pick_26 1 rfl (by decide +kernel) rfl ⟨Nat.le_of_ble_eq_true rfl, Nat.le_of_ble_eq_true rfl⟩ (Nat.le_of_ble_eq_true rfl) ⟨rfl, rfl⟩ ?_
      rintro _ h2 ⟨rfl, hM2, ht2⟩
      refine go_iret hC hF dX3_pick_29 rfl rfl ?_
      rw [hu, if_neg c18]
      exact ⟨rfl, hM1.fl hM2 rfl, ht1.tr ht2⟩
    · refine go_iconst hC (1) dX3_pick_21 (by decide) ?_
      refine go_goto hC 26 dX3_pick_22 (by decide) ?_
      refine go_callV0 hC (c_X3_fails hM1.1 1) (lw_V q1815 q1817 qs33 q83 q1818) hM1.1.1 rfl dX3_pick_26 1 rfl (by decide +kernel) rfl ⟨Nat.le_of_ble_eq_true rfl, Nat.le_of_ble_eq_true rfl⟩ (Nat.le_of_ble_eq_true rfl) ⟨rfl, rfl⟩ ?_
      rintro _ h2 ⟨rfl, hM2, ht2⟩
      refine go_iret hC hF dX3_pick_29 rfl rfl ?_
      rw [hu, if_pos c18]
      exact ⟨rfl, hM1.fl hM2 rfl, ht1.tr ht2⟩
  obtain ⟨y, hy⟩ := reason0 c12
  refine go_aload_n hC dX3_pick_30 rfl ?_
  refine go_callV0 hC (c_X3_saves hM1 hw) (lw_V q1842 q1844 qs39 q83 q1845) hM1.1.1 rfl dX3_pick_31 0 rfl (by decide +kernel) rfl ⟨Nat.le_of_ble_eq_true rfl, Nat.le_of_ble_eq_true rfl⟩ (Nat.le_of_ble_eq_true rfl) ⟨rfl, rfl⟩ ?_
  rintro _ h5 ⟨rfl, f5, s5, hA5, ht5, k5⟩
  refine go_aload_n hC dX3_pick_34 rfl ?_
  refine go_iload_n hC dX3_pick_35 rfl ?_
  refine go_callV0 hC (c_X3_picks hA5.1 hA5.r hw.1 x hy) (lw_V q1870 q1872 qs44 q83 q1873) hA5.1.1 rfl dX3_pick_36 1 rfl (by decide +kernel) rfl ⟨Nat.le_of_ble_eq_true rfl, Nat.le_of_ble_eq_true rfl⟩ (Nat.le_of_ble_eq_true rfl) ⟨rfl, rfl⟩ ?_
  rintro _ _ ⟨rfl, s6, rfl, hs6⟩
  refine go_iret hC hF dX3_pick_39 rfl rfl ?_
  have e : stp a.1 x = absI (way a.1 y.2.2) := by unfold stp; rw [hy]
  rw [show oPick a x = (0, stp a.1 x, (pck a.1 x, svd a, a.2.2)) from if_pos c12]
  exact ⟨by rw [e], ⟨A, f5, hs, _, hA5.s (hA5.1.s s6) hs6, (k5 0 (by decide)).trans rfl⟩, (ht1.tr ht5).tr (Mto.rf.st hA5.1.2.1)⟩
theorem c_X3_turn (hQ : MQr G h m a k) (hw : WFA c a) (d : Int32) : CT G yX3_turn cX3_turn 3 (some .int) (rmL 12 0 0) [.ref m, .int d] h (fun z h' => PMo G h m (oTurn a d) z h') noX := by
  obtain ⟨A, f, hs, g, hM, -⟩ := hQ
  refine CT_of [some (.ref m), some (.int d), none] (by decide +kernel) rfl (Nat.le_of_ble_eq_true rfl) (fun X hC hF hE => ?_)
  refine go_aload_n hC dX3_turn_0 rfl ?_
  refine go_iconst hC (0) dX3_turn_1 (by decide) ?_
  refine go_put hC kX3 hM.1.1 0 q1752 dX3_turn_2 (by decide) (Nat.le_of_ble_eq_true rfl) (Or.inl rfl) rfl rfl rfl ?_
  refine hM.st (fun h1 hM1 ht1 => ?_)
  refine go_iload_n hC dX3_turn_5 rfl ?_
  refine go_callS0 hC (c_X3_isDrawer d) (lw_S q1809 q1810 q83 q1811) dX3_turn_6 1 rfl (by decide +kernel) rfl ⟨Nat.le_of_ble_eq_true rfl, Nat.le_of_ble_eq_true rfl⟩ (Nat.le_of_ble_eq_true rfl) ⟨rfl, rfl⟩ ?_
  rintro _ _ ⟨rfl, rfl⟩
  refine go_B_ne hC 18 dX3_turn_9 (by decide) rfl (fun c9 => ?_) (fun c9 => ?_)
  rotate_left
  · refine go_aload_n hC dX3_turn_12 rfl ?_
    refine go_iconst hC (1) dX3_turn_13 (by decide) ?_
    refine go_callV0 hC (c_X3_fails hM1.1 1) (lw_V q1815 q1817 qs33 q83 q1818) hM1.1.1 rfl dX3_turn_14 1 rfl (by decide +kernel) rfl ⟨Nat.le_of_ble_eq_true rfl, Nat.le_of_ble_eq_true rfl⟩ (Nat.le_of_ble_eq_true rfl) ⟨rfl, rfl⟩ ?_
    rintro _ h2 ⟨rfl, hM2, ht2⟩
    refine go_iret hC hF dX3_turn_17 rfl rfl ?_
    rw [show oTurn a d = (1, 0, a) from if_pos c9]
    exact ⟨rfl, hM1.fl hM2 rfl, ht1.tr ht2⟩
  obtain ⟨j, j1, j2, j3⟩ := inB_0 (b := 11) (by omega) c9
  have hu : oTurn a d = if way a.1 j = 99 then (2, 0, a) else (0, way a.1 j, (trn a.1 j, svd a, a.2.2)) := by
    unfold oTurn
    rw [if_neg (fun q => absurd (q.symm.trans c9) (by decide)), j3]
  subst j2
  refine go_aload_n hC dX3_turn_18 rfl ?_
  refine go_iload_n hC dX3_turn_19 rfl ?_
  refine go_callV0 hC (c_X3_wayTo hM1.1 hM1.r hw.1 j (by omega)) (lw_V q1862 q1864 qs42 q83 q1865) hM1.1.1 rfl dX3_turn_20 1 rfl (by decide +kernel) rfl ⟨Nat.le_of_ble_eq_true rfl, Nat.le_of_ble_eq_true rfl⟩ (Nat.le_of_ble_eq_true rfl) ⟨rfl, rfl⟩ ?_
  rintro _ _ ⟨rfl, rfl⟩
  refine go_istore_n hC dX3_turn_23 (by decide) ?_
  refine go_iload_n hC dX3_turn_24 rfl ?_
  refine go_bipush hC (nI 99) dX3_turn_25 (by decide) ?_
  refine go_icmp_ne hC 36 dX3_turn_27 (by decide) (fun c27 => ?_) (fun c27 => ?_)
  · refine go_aload_n hC dX3_turn_36 rfl ?_
    refine go_callV0 hC (c_X3_saves hM1 hw) (lw_V q1842 q1844 qs39 q83 q1845) hM1.1.1 rfl dX3_turn_37 0 rfl (by decide +kernel) rfl ⟨Nat.le_of_ble_eq_true rfl, Nat.le_of_ble_eq_true rfl⟩ (Nat.le_of_ble_eq_true rfl) ⟨rfl, rfl⟩ ?_
    rintro _ h5 ⟨rfl, f5, s5, hA5, ht5, k5⟩
    refine go_aload_n hC dX3_turn_40 rfl ?_
    refine go_iload_n hC dX3_turn_41 rfl ?_
    refine go_callV0 hC (c_X3_turns hA5.1 hA5.r hw.1 j (by omega)) (lw_V q1881 q1883 qs46 q83 q1884) hA5.1.1 rfl dX3_turn_42 1 rfl (by decide +kernel) rfl ⟨Nat.le_of_ble_eq_true rfl, Nat.le_of_ble_eq_true rfl⟩ (Nat.le_of_ble_eq_true rfl) ⟨rfl, rfl⟩ ?_
    rintro _ _ ⟨rfl, s6, rfl, hs6⟩
    refine go_iload_n hC dX3_turn_45 rfl ?_
    refine go_iret hC hF dX3_turn_46 rfl rfl ?_
    rw [hu, if_neg (show ¬ way a.1 j = 99 from c27)]
    exact ⟨rfl, ⟨A, f5, hs, _, hA5.s (hA5.1.s s6) hs6, (k5 0 (by decide)).trans rfl⟩, (ht1.tr ht5).tr (Mto.rf.st hA5.1.2.1)⟩
  · refine go_aload_n hC dX3_turn_30 rfl ?_
    refine go_iconst hC (nI 2) dX3_turn_31 (by decide) ?_
    refine go_callV0 hC (c_X3_fails hM1.1 (nI 2)) (lw_V q1815 q1817 qs33 q83 q1818) hM1.1.1 rfl dX3_turn_32 1 rfl (by decide +kernel) rfl ⟨Nat.le_of_ble_eq_true rfl, Nat.le_of_ble_eq_true rfl⟩ (Nat.le_of_ble_eq_true rfl) ⟨rfl, rfl⟩ ?_
    rintro _ h2 ⟨rfl, hM2, ht2⟩
    refine go_iret hC hF dX3_turn_35 rfl rfl ?_
    rw [hu, if_pos (show way a.1 j = 99 from c27)]
    exact ⟨rfl, hM1.fl hM2 rfl, ht1.tr ht2⟩
theorem row_jm {s : Nat → Int32} {t : St} (hr : Row s t) (d : Nat) (hd : d < 12) (b : Bool) : Row (upd s (10 + d) (bI b)) (jmS t d b) := by
  obtain ⟨z1, z2, z3, z4, z5, z6, z7⟩ := hr
  refine ⟨fun q hq => by rw [pk_un (by omega)]; exact z1 q hq, by rw [pk_un (by omega)]; exact z2, fun q q1 q2 => by rw [pk_un (by omega)]; exact z3 q q1 q2, by rw [pk_un (by omega)]; exact z4, by rw [pk_un (by omega)]; exact z5, fun q hq => ?_, fun i x hx => ?_⟩
  · show _ = bI (if q = d then b else sJ t q)
    by_cases e : q = d
    · rw [e, pk_us, if_pos rfl]
    · rw [pk_un (by omega), if_neg e]; exact z6 q hq
  · rw [pk_un (by omega), pk_un (by omega), pk_un (by omega)]
    exact z7 i x hx
theorem row_st {s : Nat → Int32} {t : St} (hr : Row s t) (d : Nat) (hd : d < 3) (v : Int32) : Row (upd s d v) (stS t d v) := by
  obtain ⟨z1, z2, z3, z4, z5, z6, z7⟩ := hr
  refine ⟨fun q hq => ?_, by rw [pk_un (by omega)]; exact z2, fun q q1 q2 => ?_, by rw [pk_un (by omega)]; exact z4, by rw [pk_un (by omega)]; exact z5, fun q hq => by rw [pk_un (by omega)]; exact z6 q hq, fun i x hx => ?_⟩
  · show _ = if q = d then v else sN t q
    by_cases e : q = d
    · rw [e, pk_us, if_pos rfl]
    · rw [pk_un e, if_neg e]; exact z1 q hq
  · show _ = if q = d then v else sN t q
    rw [pk_un (by omega), if_neg (by omega)]; exact z3 q q1 q2
  · rw [pk_un (by omega), pk_un (by omega), pk_un (by omega)]
    exact z7 i x hx
theorem c_X3_jam (hQ : MQr G h m a k) (hw : WFA c a) (d : Int32) (b : Bool) : CT G yX3_jam cX3_jam 4 (some .int) (rmL 12 0 0) [.ref m, .int d, .int (bI b)] h (fun z h' => PMo G h m (oJam a d b) z h') noX := by
  obtain ⟨A, f, hs, g, hM, -⟩ := hQ
  refine CT_of [some (.ref m), some (.int d), some (.int (bI b)), none] (by decide +kernel) rfl (Nat.le_of_ble_eq_true rfl) (fun X hC hF hE => ?_)
  refine go_aload_n hC dX3_jam_0 rfl ?_
  refine go_iconst hC (0) dX3_jam_1 (by decide) ?_
  refine go_put hC kX3 hM.1.1 0 q1752 dX3_jam_2 (by decide) (Nat.le_of_ble_eq_true rfl) (Or.inl rfl) rfl rfl rfl ?_
  refine hM.st (fun h1 hM1 ht1 => ?_)
  refine go_iload_n hC dX3_jam_5 rfl ?_
  refine go_callS0 hC (c_X3_isDrawer d) (lw_S q1809 q1810 q83 q1811) dX3_jam_6 1 rfl (by decide +kernel) rfl ⟨Nat.le_of_ble_eq_true rfl, Nat.le_of_ble_eq_true rfl⟩ (Nat.le_of_ble_eq_true rfl) ⟨rfl, rfl⟩ ?_
  rintro _ _ ⟨rfl, rfl⟩
  refine go_B_ne hC 18 dX3_jam_9 (by decide) rfl (fun c9 => ?_) (fun c9 => ?_)
  rotate_left
  · refine go_aload_n hC dX3_jam_12 rfl ?_
    refine go_iconst hC (1) dX3_jam_13 (by decide) ?_
    refine go_callV0 hC (c_X3_fails hM1.1 1) (lw_V q1815 q1817 qs33 q83 q1818) hM1.1.1 rfl dX3_jam_14 1 rfl (by decide +kernel) rfl ⟨Nat.le_of_ble_eq_true rfl, Nat.le_of_ble_eq_true rfl⟩ (Nat.le_of_ble_eq_true rfl) ⟨rfl, rfl⟩ ?_
    rintro _ h2 ⟨rfl, hM2, ht2⟩
    refine go_iret hC hF dX3_jam_17 rfl rfl ?_
    rw [show oJam a d b = (1, 0, a) from if_pos c9]
    exact ⟨rfl, hM1.fl hM2 rfl, ht1.tr ht2⟩
  obtain ⟨j, j1, j2, j3⟩ := inB_0 (b := 11) (by omega) c9
  have hu : oJam a d b = (0, bI (sJ a.1 j), (jmS a.1 j b, svd a, a.2.2)) := by
    unfold oJam
    rw [if_neg (fun q => absurd (q.symm.trans c9) (by decide)), j3]
  subst j2
  refine go_aload_n hC dX3_jam_18 rfl ?_
  refine go_callV0 hC (c_X3_saves hM1 hw) (lw_V q1842 q1844 qs39 q83 q1845) hM1.1.1 rfl dX3_jam_19 0 rfl (by decide +kernel) rfl ⟨Nat.le_of_ble_eq_true rfl, Nat.le_of_ble_eq_true rfl⟩ (Nat.le_of_ble_eq_true rfl) ⟨rfl, rfl⟩ ?_
  rintro _ h5 ⟨rfl, f5, s5, hA5, ht5, k5⟩
  refine go_aload_n hC dX3_jam_22 rfl ?_
  refine go_get hC kX3 hA5.1.1 1 q1753 dX3_jam_23 rfl (by decide) (Or.inl rfl) ?_
  refine go_bipush hC (nI 10) dX3_jam_26 (by decide) ?_
  refine go_iload_n hC dX3_jam_28 rfl ?_
  refine go_iadd hC dX3_jam_29 ?_
  refine go_iald hC (10+j) hA5.1.2.1 dX3_jam_30 (by first | rfl | (simp only [nI_add, pk_mul, nI_1, Int32.add_zero]; done) | (simp only [nI_add, pk_mul, nI_1, Int32.add_zero]; exact congrArg nI (by omega))) (by omega) (by omega) ?_
  refine go_istore_n hC dX3_jam_31 (by decide) ?_
  refine go_aload_n hC dX3_jam_32 rfl ?_
  refine go_get hC kX3 hA5.1.1 1 q1753 dX3_jam_33 rfl (by decide) (Or.inl rfl) ?_
  refine go_bipush hC (nI 10) dX3_jam_36 (by decide) ?_
  refine go_iload_n hC dX3_jam_38 rfl ?_
  refine go_iadd hC dX3_jam_39 ?_
  refine go_iload_n hC dX3_jam_40 rfl ?_
  refine go_B_eq hC 48 dX3_jam_41 (by decide) rfl (fun c41 => ?_) (fun c41 => ?_)
  · subst c41
    refine go_iconst hC (0) dX3_jam_48 (by decide) ?_
    refine go_iast hC (10+j) hA5.1.2.1 dX3_jam_49 (by first | rfl | (simp only [nI_add, pk_mul, nI_1, Int32.add_zero]; done) | (simp only [nI_add, pk_mul, nI_1, Int32.add_zero]; exact congrArg nI (by omega))) (by omega) (by omega) ?_
    refine go_iload_n hC dX3_jam_50 rfl ?_
    refine go_iret hC hF dX3_jam_51 rfl rfl ?_
    rw [hu]
    refine ⟨congrArg some (congrArg Value.int (hA5.r.2.2.2.2.2.1 j (by omega))), ⟨A, f5, hs, _, hA5.s (hA5.1.s _) ?_, (k5 0 (by decide)).trans rfl⟩, (ht1.tr ht5).tr (Mto.rf.st hA5.1.2.1)⟩
    exact row_jm hA5.r j (by omega) false
  · subst c41
    refine go_iconst hC (1) dX3_jam_44 (by decide) ?_
    refine go_goto hC 49 dX3_jam_45 (by decide) ?_
    refine go_iast hC (10+j) hA5.1.2.1 dX3_jam_49 (by first | rfl | (simp only [nI_add, pk_mul, nI_1, Int32.add_zero]; done) | (simp only [nI_add, pk_mul, nI_1, Int32.add_zero]; exact congrArg nI (by omega))) (by omega) (by omega) ?_
    refine go_iload_n hC dX3_jam_50 rfl ?_
    refine go_iret hC hF dX3_jam_51 rfl rfl ?_
    rw [hu]
    refine ⟨congrArg some (congrArg Value.int (hA5.r.2.2.2.2.2.1 j (by omega))), ⟨A, f5, hs, _, hA5.s (hA5.1.s _) ?_, (k5 0 (by decide)).trans rfl⟩, (ht1.tr ht5).tr (Mto.rf.st hA5.1.2.1)⟩
    exact row_jm hA5.r j (by omega) true
theorem c_X3_set (hQ : MQr G h m a k) (hw : WFA c a) (s v : Int32) : CT G yX3_set cX3_set 5 (some .int) (rmL 12 0 0) [.ref m, .int s, .int v] h (fun z h' => PMo G h m (oSet a s v) z h') noX := by
  obtain ⟨A, f, hs, g, hM, -⟩ := hQ
  refine CT_of [some (.ref m), some (.int s), some (.int v), none, none] (by decide +kernel) rfl (Nat.le_of_ble_eq_true rfl) (fun X hC hF hE => ?_)
  refine go_aload_n hC dX3_set_0 rfl ?_
  refine go_iconst hC (0) dX3_set_1 (by decide) ?_
  refine go_put hC kX3 hM.1.1 0 q1752 dX3_set_2 (by decide) (Nat.le_of_ble_eq_true rfl) (Or.inl rfl) rfl rfl rfl ?_
  refine hM.st (fun h1 hM1 ht1 => ?_)
  refine go_iload_n hC dX3_set_5 rfl ?_
  refine go_iconst hC (0) dX3_set_6 (by decide) ?_
  refine go_iconst hC (nI 2) dX3_set_7 (by decide) ?_
  refine go_callS0 hC (c_X3_in s 0 (nI 2)) (lw_S q1812 q1813 q83 q1814) dX3_set_8 3 rfl (by decide +kernel) rfl ⟨Nat.le_of_ble_eq_true rfl, Nat.le_of_ble_eq_true rfl⟩ (Nat.le_of_ble_eq_true rfl) ⟨rfl, rfl⟩ ?_
  rintro _ _ ⟨rfl, rfl⟩
  refine go_B_ne hC 20 dX3_set_11 (by decide) rfl (fun c11 => ?_) (fun c11 => ?_)
  rotate_left
  · refine go_aload_n hC dX3_set_14 rfl ?_
    refine go_iconst hC (1) dX3_set_15 (by decide) ?_
    refine go_callV0 hC (c_X3_fails hM1.1 1) (lw_V q1815 q1817 qs33 q83 q1818) hM1.1.1 rfl dX3_set_16 1 rfl (by decide +kernel) rfl ⟨Nat.le_of_ble_eq_true rfl, Nat.le_of_ble_eq_true rfl⟩ (Nat.le_of_ble_eq_true rfl) ⟨rfl, rfl⟩ ?_
    rintro _ h2 ⟨rfl, hM2, ht2⟩
    refine go_iret hC hF dX3_set_19 rfl rfl ?_
    rw [show oSet a s v = (1, 0, a) from if_pos c11]
    exact ⟨rfl, hM1.fl hM2 rfl, ht1.tr ht2⟩
  obtain ⟨j, j1, j2, j3⟩ := inB_0 (b := 2) (by omega) c11
  have hu : oSet a s v = if vOk j v = false then (2, 0, a) else if j = 1 ∧ v < top12 (ld (sI a.1)) then (3, 0, a) else (0, sN a.1 j, (stS a.1 j v, svd a, a.2.2)) := by
    unfold oSet
    rw [if_neg (fun q => absurd (q.symm.trans c11) (by decide)), j3]
  subst j2
  have fin : ¬ (j = 1 ∧ v < top12 (ld (sI a.1))) → vOk j v = true → Go X G h1 0 0 87 [some (.ref m), some (.int (nI j)), some (.int v), some (.int 1), none] [] := by
    intro q1 q2
    refine go_aload_n hC dX3_set_87 rfl ?_
    refine go_callV0 hC (c_X3_saves hM1 hw) (lw_V q1842 q1844 qs39 q83 q1845) hM1.1.1 rfl dX3_set_88 0 rfl (by decide +kernel) rfl ⟨Nat.le_of_ble_eq_true rfl, Nat.le_of_ble_eq_true rfl⟩ (Nat.le_of_ble_eq_true rfl) ⟨rfl, rfl⟩ ?_
    rintro _ h5 ⟨rfl, f5, s5, hA5, ht5, k5⟩
    refine go_aload_n hC dX3_set_91 rfl ?_
    refine go_get hC kX3 hA5.1.1 1 q1753 dX3_set_92 rfl (by decide) (Or.inl rfl) ?_
    refine go_iload_n hC dX3_set_95 rfl ?_
    refine go_iald hC j hA5.1.2.1 dX3_set_96 (by first | rfl | (simp only [nI_add, pk_mul, nI_1, Int32.add_zero]; done) | (simp only [nI_add, pk_mul, nI_1, Int32.add_zero]; exact congrArg nI (by omega))) (by omega) (by omega) ?_
    refine go_istore hC dX3_set_97 (by decide) ?_
    refine go_aload_n hC dX3_set_99 rfl ?_
    refine go_get hC kX3 hA5.1.1 1 q1753 dX3_set_100 rfl (by decide) (Or.inl rfl) ?_
    refine go_iload_n hC dX3_set_103 rfl ?_
    refine go_iload_n hC dX3_set_104 rfl ?_
    refine go_iast hC j hA5.1.2.1 dX3_set_105 (by first | rfl | (simp only [nI_add, pk_mul, nI_1, Int32.add_zero]; done) | (simp only [nI_add, pk_mul, nI_1, Int32.add_zero]; exact congrArg nI (by omega))) (by omega) (by omega) ?_
    refine go_iload hC dX3_set_106 rfl ?_
    refine go_iret hC hF dX3_set_108 rfl rfl ?_
    rw [hu, if_neg (fun z => absurd (z.symm.trans q2) (by decide)), if_neg q1]
    exact ⟨congrArg some (congrArg Value.int (hA5.r.1 j (by omega))), ⟨A, f5, hs, _, hA5.s (hA5.1.s _) (row_st hA5.r j (by omega) v), (k5 0 (by decide)).trans rfl⟩, (ht1.tr ht5).tr (Mto.rf.st hA5.1.2.1)⟩
  have mid : ∀ (b : Bool), vOk j v = b → Go X G h1 0 0 57 [some (.ref m), some (.int (nI j)), some (.int v), none, none] [.int (bI b)] := by
    intro b hb
    refine go_istore_n hC dX3_set_57 (by decide) ?_
    refine go_iload_n hC dX3_set_58 rfl ?_
    refine go_B_ne hC 68 dX3_set_59 (by decide) rfl (fun c59 => ?_) (fun c59 => ?_)
    rotate_left
    · refine go_aload_n hC dX3_set_62 rfl ?_
      refine go_iconst hC (nI 2) dX3_set_63 (by decide) ?_
      refine go_callV0 hC (c_X3_fails hM1.1 (nI 2)) (lw_V q1815 q1817 qs33 q83 q1818) hM1.1.1 rfl dX3_set_64 1 rfl (by decide +kernel) rfl ⟨Nat.le_of_ble_eq_true rfl, Nat.le_of_ble_eq_true rfl⟩ (Nat.le_of_ble_eq_true rfl) ⟨rfl, rfl⟩ ?_
      rintro _ h2 ⟨rfl, hM2, ht2⟩
      refine go_iret hC hF dX3_set_67 rfl rfl ?_
      rw [hu, if_pos (hb.trans c59)]
      exact ⟨rfl, hM1.fl hM2 rfl, ht1.tr ht2⟩
    rw [c59] at hb
    subst c59
    refine go_iload_n hC dX3_set_68 rfl ?_
    refine go_iconst hC (1) dX3_set_69 (by decide) ?_
    refine go_N_ne hC (b := 1) 87 dX3_set_70 (by decide) rfl rfl (by omega) (by omega) (fun c70 => ?_) (fun c70 => ?_)
    · exact fin (fun z => c70 z.1) hb
    · refine go_iload_n hC dX3_set_73 rfl ?_
      refine go_aload_n hC dX3_set_74 rfl ?_
      refine go_callV0 hC (c_X3_greatestLoad hM1.1 hM1.r hw.1) (lw_V q1897 q1899 qs47 q83 q1900) hM1.1.1 rfl dX3_set_75 0 rfl (by decide +kernel) rfl ⟨Nat.le_of_ble_eq_true rfl, Nat.le_of_ble_eq_true rfl⟩ (Nat.le_of_ble_eq_true rfl) ⟨rfl, rfl⟩ ?_
      rintro _ _ ⟨rfl, rfl⟩
      refine go_icmp_ge hC 87 dX3_set_78 (by decide) (fun c78 => ?_) (fun c78 => ?_)
      · exact fin (fun z => i32_nle.mpr z.2 c78) hb
      · refine go_aload_n hC dX3_set_81 rfl ?_
        refine go_iconst hC (nI 3) dX3_set_82 (by decide) ?_
        refine go_callV0 hC (c_X3_fails hM1.1 (nI 3)) (lw_V q1815 q1817 qs33 q83 q1818) hM1.1.1 rfl dX3_set_83 1 rfl (by decide +kernel) rfl ⟨Nat.le_of_ble_eq_true rfl, Nat.le_of_ble_eq_true rfl⟩ (Nat.le_of_ble_eq_true rfl) ⟨rfl, rfl⟩ ?_
        rintro _ h2 ⟨rfl, hM2, ht2⟩
        refine go_iret hC hF dX3_set_86 rfl rfl ?_
        rw [hu, if_neg (fun z => absurd (z.symm.trans hb) (by decide)), if_pos ⟨c70, i32_nle.mp c78⟩]
        exact ⟨rfl, hM1.fl hM2 rfl, ht1.tr ht2⟩
  refine go_iload_n hC dX3_set_20 rfl ?_
  refine go_if_ne hC 35 dX3_set_21 (by decide) (fun c21 => ?_) (fun c21 => ?_)
  · rw [nI_e0 (by omega)] at c21
    refine go_iload_n hC dX3_set_35 rfl ?_
    refine go_iconst hC (1) dX3_set_36 (by decide) ?_
    refine go_N_ne hC (b := 1) 51 dX3_set_37 (by decide) rfl rfl (by omega) (by omega) (fun c37 => ?_) (fun c37 => ?_)
    · refine go_iload_n hC dX3_set_51 rfl ?_
      refine go_iconst hC (0) dX3_set_52 (by decide) ?_
      refine go_iconst hC (nI 2) dX3_set_53 (by decide) ?_
      refine go_callS0 hC (c_X3_in v 0 (nI 2)) (lw_S q1812 q1813 q83 q1814) dX3_set_54 3 rfl (by decide +kernel) rfl ⟨Nat.le_of_ble_eq_true rfl, Nat.le_of_ble_eq_true rfl⟩ (Nat.le_of_ble_eq_true rfl) ⟨rfl, rfl⟩ ?_
      rintro _ _ ⟨rfl, rfl⟩
      exact mid _ (by unfold vOk; rw [if_neg c21, if_neg c37])
    · refine go_iload_n hC dX3_set_40 rfl ?_
      refine go_bipush hC (nI 10) dX3_set_41 (by decide) ?_
      refine go_bipush hC (nI 100) dX3_set_43 (by decide) ?_
      refine go_callS0 hC (c_X3_in v (nI 10) (nI 100)) (lw_S q1812 q1813 q83 q1814) dX3_set_45 3 rfl (by decide +kernel) rfl ⟨Nat.le_of_ble_eq_true rfl, Nat.le_of_ble_eq_true rfl⟩ (Nat.le_of_ble_eq_true rfl) ⟨rfl, rfl⟩ ?_
      rintro _ _ ⟨rfl, rfl⟩
      refine go_goto hC 57 dX3_set_48 (by decide) ?_
      exact mid _ (by unfold vOk; rw [if_neg c21, if_pos c37])
  · rw [nI_e0 (by omega)] at c21
    refine go_iload_n hC dX3_set_24 rfl ?_
    refine go_iconst hC (0) dX3_set_25 (by decide) ?_
    refine go_sipush hC (nI 300) dX3_set_26 (by decide) ?_
    refine go_callS0 hC (c_X3_in v 0 (nI 300)) (lw_S q1812 q1813 q83 q1814) dX3_set_29 3 rfl (by decide +kernel) rfl ⟨Nat.le_of_ble_eq_true rfl, Nat.le_of_ble_eq_true rfl⟩ (Nat.le_of_ble_eq_true rfl) ⟨rfl, rfl⟩ ?_
    rintro _ _ ⟨rfl, rfl⟩
    refine go_goto hC 57 dX3_set_32 (by decide) ?_
    exact mid _ (by unfold vOk; rw [if_pos c21])
theorem row_mv {s : Nat → Int32} {t : St} (hr : Row s t) (i d : Nat) {y : It} (hy : (sI t)[i]? = some y) (hn : (sI t).length ≤ 40) : Row (upd s (22 + 3 * i + 2) (nI d)) (mvS t i d) := by
  obtain ⟨z1, z2, z3, z4, z5, z6, z7⟩ := hr
  refine ⟨fun q hq => by rw [pk_un (by omega)]; exact z1 q hq, by rw [pk_un (by omega)]; exact z2, fun q q1 q2 => by rw [pk_un (by omega)]; exact z3 q q1 q2, by rw [pk_un (by omega)]; exact z4, ?_, fun q hq => by rw [pk_un (by omega)]; exact z6 q hq, fun j x hx => ?_⟩
  · rw [pk_un (by omega)]
    show _ = nI (List.modify _ _ _).length
    rw [List.length_modify]; exact z5
  · have hx' : (List.modify (sI t) i (fun y => (y.1, y.2.1, d)))[j]? = some x := hx
    rw [List.getElem?_modify] at hx'
    by_cases e : i = j
    · subst e
      rw [hy] at hx'
      simp at hx'
      subst hx'
      obtain ⟨w1, w2, w3⟩ := z7 i y hy
      rw [pk_un (by omega), pk_un (by omega), pk_us]
      exact ⟨w1, w2, rfl⟩
    · have hxx : (sI t)[j]? = some x := by
        cases q : (sI t)[j]? with
        | none => rw [q] at hx'; cases hx'
        | some w => rw [q] at hx'; simpa [e] using hx'
      rw [pk_un (by omega), pk_un (by omega), pk_un (by omega)]
      exact z7 j x hxx
theorem mv_back {t : St} {i d : Nat} {y : It} (hy : (sI t)[i]? = some y) : mvS (mvS t i d) i y.2.2 = t := by
  have : List.modify (List.modify (sI t) i (fun y => (y.1, y.2.1, d))) i (fun z => (z.1, z.2.1, y.2.2)) = sI t := by
    refine List.ext_getElem? (fun j => ?_)
    rw [List.getElem?_modify, List.getElem?_modify]
    by_cases e : i = j
    · subst e; rw [hy]; simp
    · cases (sI t)[j]? with
      | none => rfl
      | some w => simp [e]
  show (sN t, sJ t, sW t, sC t, List.modify (List.modify (sI t) i _) i _) = t
  rw [this]
theorem c_X3_move (hQ : MQr G h m a k) (hw : WFA c a) (x d : Int32) : CT G yX3_move cX3_move 6 (some .int) (rmL 12 0 0) [.ref m, .int x, .int d] h (fun z h' => PMo G h m (oMove a x d) z h') noX := by
  obtain ⟨A, f, hs, g, hM, -⟩ := hQ
  refine CT_of [some (.ref m), some (.int x), some (.int d), none, none, none] (by decide +kernel) rfl (Nat.le_of_ble_eq_true rfl) (fun X hC hF hE => ?_)
  refine go_aload_n hC dX3_move_0 rfl ?_
  refine go_iconst hC (0) dX3_move_1 (by decide) ?_
  refine go_put hC kX3 hM.1.1 0 q1752 dX3_move_2 (by decide) (Nat.le_of_ble_eq_true rfl) (Or.inl rfl) rfl rfl rfl ?_
  refine hM.st (fun h1 hM1 ht1 => ?_)
  have no : ∀ (z : Option Value), oMove a x d = (1, 0, a) → Go X G h1 0 0 23 [some (.ref m), some (.int x), some (.int d), z, none, none] [] := by
    intro z hz
    refine go_aload_n hC dX3_move_23 rfl ?_
    refine go_iconst hC (1) dX3_move_24 (by decide) ?_
    refine go_callV0 hC (c_X3_fails hM1.1 1) (lw_V q1815 q1817 qs33 q83 q1818) hM1.1.1 rfl dX3_move_25 1 rfl (by decide +kernel) rfl ⟨Nat.le_of_ble_eq_true rfl, Nat.le_of_ble_eq_true rfl⟩ (Nat.le_of_ble_eq_true rfl) ⟨rfl, rfl⟩ ?_
    rintro _ h2 ⟨rfl, hM2, ht2⟩
    refine go_iret hC hF dX3_move_28 rfl rfl ?_
    rw [hz]
    exact ⟨rfl, hM1.fl hM2 rfl, ht1.tr ht2⟩
  have hl := hw.1.n
  refine go_aload_n hC dX3_move_5 rfl ?_
  refine go_iload_n hC dX3_move_6 rfl ?_
  refine go_callV0 hC (c_X3_placeOfItem hM1.1 hM1.r hw.1 x) (lw_V q1850 q1852 qs40 q83 q1853) hM1.1.1 rfl dX3_move_7 1 rfl (by decide +kernel) rfl ⟨Nat.le_of_ble_eq_true rfl, Nat.le_of_ble_eq_true rfl⟩ (Nat.le_of_ble_eq_true rfl) ⟨rfl, rfl⟩ ?_
  rintro _ _ ⟨rfl, rfl⟩
  cases hp : pos (sI a.1) x with
  | none =>
    refine go_istore_n hC dX3_move_10 (by decide) ?_
    refine go_iload_n hC dX3_move_11 rfl ?_
    refine go_iconst hC (-1) dX3_move_12 (by decide) ?_
    refine go_icmp_eq hC 23 dX3_move_13 (by decide) (fun _ => ?_) (fun z => absurd rfl z)
    exact no _ (by unfold oMove; rw [hp])
  | some i =>
    obtain ⟨y, hy1, hy2, hy3⟩ : ∃ y, itm (sI a.1) x = some y ∧ (sI a.1)[i]? = some y ∧ nI y.1 = x := by
      rcases pos_itm (sI a.1) x with ⟨z, -⟩ | ⟨i2, y, z1, z2, z3, z4⟩
      · rw [hp] at z; cases z
      · rw [hp] at z1; cases z1; exact ⟨y, z2, z3, z4⟩
    have hi : i < (sI a.1).length := (List.getElem?_eq_some_iff.mp hy2).1
    have hne : ¬ nI i = -1 := fun z => absurd (congrArg Int32.toInt z) (by show ¬ (nI i).toInt = -1; rw [nI_toInt (by omega)]; omega)
    have hdy : drw a.1 i = y.2.2 := by unfold drw; rw [hy2]
    have hy12 := hw.1.d.it hy2
    show Go X G h1 _ _ 10 _ [.int (nI i)]
    refine go_istore_n hC dX3_move_10 (by decide) ?_
    refine go_iload_n hC dX3_move_11 rfl ?_
    refine go_iconst hC (-1) dX3_move_12 (by decide) ?_
    refine go_icmp_eq hC 23 dX3_move_13 (by decide) (fun z => absurd z hne) (fun _ => ?_)
    refine go_iload_n hC dX3_move_16 rfl ?_
    refine go_callS0 hC (c_X3_isDrawer d) (lw_S q1809 q1810 q83 q1811) dX3_move_17 1 rfl (by decide +kernel) rfl ⟨Nat.le_of_ble_eq_true rfl, Nat.le_of_ble_eq_true rfl⟩ (Nat.le_of_ble_eq_true rfl) ⟨rfl, rfl⟩ ?_
    rintro _ _ ⟨rfl, rfl⟩
    refine go_B_ne hC 29 dX3_move_20 (by decide) rfl (fun c20 => ?_) (fun c20 => ?_)
    rotate_left
    · exact no _ (by unfold oMove; rw [hp]; exact if_pos c20)
    obtain ⟨j, j1, j2, j3⟩ := inB_0 (b := 11) (by omega) c20
    have hu : oMove a x d = if mayM a.1 i j = true then (0, nI y.2.2, (mvS a.1 i j, svd a, a.2.2)) else (2, 0, a) := by
      unfold oMove
      rw [hp]
      show ite _ _ _ = _
      rw [if_neg (fun q => absurd (q.symm.trans c20) (by decide)), j3, hdy]
    subst j2
    have ed : g 1 (22 + 3 * i + 2) = nI y.2.2 := (hM1.r.2.2.2.2.2.2 i y hy2).2.2
    have hr2 := row_mv hM1.r i j hy2 hl
    have hM2 := hM1.1.s (upd (g 1) (22 + 3 * i + 2) (nI j))
    have hw2 : WF c (mvS a.1 i j) := WF_mvS hw.1 i (by omega)
    have ht2 : Mto h (hS G h1 m A (upd (g 1) (22 + 3 * i + 2) (nI j))) m := ht1.st hM1.1.2.1
    have fin : ∀ (b : Bool), mayM a.1 i j = b → Go X G (hS G h1 m A (upd (g 1) (22 + 3 * i + 2) (nI j))) 0 0 114 [some (.ref m), some (.int x), some (.int (nI j)), some (.int (nI i)), some (.int (nI y.2.2)), none] [.int (bI b)] := by
      intro b hb
      have hy' : (sI (mvS a.1 i j))[i]? = some (y.1, y.2.1, j) := by
        show (List.modify _ _ _)[i]? = _
        rw [List.getElem?_modify, hy2]; simp
      have hr3 := row_mv hr2 i y.2.2 hy' hw2.n
      rw [mv_back hy2] at hr3
      have hM3 := hM2.s (upd (upd (g 1) (22 + 3 * i + 2) (nI j)) (22 + 3 * i + 2) (nI y.2.2))
      rw [bx_uu] at hM3
      have ht3 : Mto h (hS G (hS G h1 m A (upd (g 1) (22 + 3 * i + 2) (nI j))) m A (upd (upd (g 1) (22 + 3 * i + 2) (nI j)) (22 + 3 * i + 2) (nI y.2.2))) m := ht2.st hM2.2.1
      refine go_istore hC dX3_move_114 (by decide) ?_
      refine go_aload_n hC dX3_move_116 rfl ?_
      refine go_get hC kX3 hM2.1 1 q1753 dX3_move_117 rfl (by decide) (Or.inl rfl) ?_
      refine go_bipush hC (nI 22) dX3_move_120 (by decide) ?_
      refine go_iconst hC (nI 3) dX3_move_122 (by decide) ?_
      refine go_iload_n hC dX3_move_123 rfl ?_
      refine go_imul hC dX3_move_124 ?_
      refine go_iadd hC dX3_move_125 ?_
      refine go_iconst hC (nI 2) dX3_move_126 (by decide) ?_
      refine go_iadd hC dX3_move_127 ?_
      refine go_iload hC dX3_move_128 rfl ?_
      refine go_iast hC (22+3*i+2) hM2.2.1 dX3_move_130 (by first | rfl | (simp only [nI_add, pk_mul, nI_1, Int32.add_zero]; done) | (simp only [nI_add, pk_mul, nI_1, Int32.add_zero]; exact congrArg nI (by omega))) (by omega) (by omega) ?_
      show Go X G (hS G (hS G h1 m A (upd (g 1) (22 + 3 * i + 2) (nI j))) m A (upd (upd (g 1) (22 + 3 * i + 2) (nI j)) (22 + 3 * i + 2) (nI y.2.2))) _ _ _ _ _
      generalize hS G (hS G h1 m A (upd (g 1) (22 + 3 * i + 2) (nI j))) m A (upd (upd (g 1) (22 + 3 * i + 2) (nI j)) (22 + 3 * i + 2) (nI y.2.2)) = h3 at hM3 ht3
      have hA3 : MM G h3 m A (upd f 0 0) hs _ a := hM1.s hM3 hr3
      refine go_iload hC dX3_move_131 rfl ?_
      refine go_B_ne hC 142 dX3_move_133 (by decide) rfl (fun c133 => ?_) (fun c133 => ?_)
      rotate_left
      · refine go_aload_n hC dX3_move_136 rfl ?_
        refine go_iconst hC (nI 2) dX3_move_137 (by decide) ?_
        refine go_callV0 hC (c_X3_fails hA3.1 (nI 2)) (lw_V q1815 q1817 qs33 q83 q1818) hA3.1.1 rfl dX3_move_138 1 rfl (by decide +kernel) rfl ⟨Nat.le_of_ble_eq_true rfl, Nat.le_of_ble_eq_true rfl⟩ (Nat.le_of_ble_eq_true rfl) ⟨rfl, rfl⟩ ?_
        rintro _ h5 ⟨rfl, hM5, ht5⟩
        refine go_iret hC hF dX3_move_141 rfl rfl ?_
        rw [hu, if_neg (fun q => absurd (c133.symm.trans (hb.symm.trans q)) (by decide))]
        exact ⟨rfl, hA3.fl hM5 rfl, ht3.tr ht5⟩
      refine go_aload_n hC dX3_move_142 rfl ?_
      refine go_callV0 hC (c_X3_saves hA3 hw) (lw_V q1842 q1844 qs39 q83 q1845) hA3.1.1 rfl dX3_move_143 0 rfl (by decide +kernel) rfl ⟨Nat.le_of_ble_eq_true rfl, Nat.le_of_ble_eq_true rfl⟩ (Nat.le_of_ble_eq_true rfl) ⟨rfl, rfl⟩ ?_
      rintro _ h5 ⟨rfl, f5, s5, hA5, ht5, k5⟩
      refine go_aload_n hC dX3_move_146 rfl ?_
      refine go_get hC kX3 hA5.1.1 1 q1753 dX3_move_147 rfl (by decide) (Or.inl rfl) ?_
      refine go_bipush hC (nI 22) dX3_move_150 (by decide) ?_
      refine go_iconst hC (nI 3) dX3_move_152 (by decide) ?_
      refine go_iload_n hC dX3_move_153 rfl ?_
      refine go_imul hC dX3_move_154 ?_
      refine go_iadd hC dX3_move_155 ?_
      refine go_iconst hC (nI 2) dX3_move_156 (by decide) ?_
      refine go_iadd hC dX3_move_157 ?_
      refine go_iload_n hC dX3_move_158 rfl ?_
      refine go_iast hC (22+3*i+2) hA5.1.2.1 dX3_move_159 (by first | rfl | (simp only [nI_add, pk_mul, nI_1, Int32.add_zero]; done) | (simp only [nI_add, pk_mul, nI_1, Int32.add_zero]; exact congrArg nI (by omega))) (by omega) (by omega) ?_
      refine go_iload hC dX3_move_160 rfl ?_
      refine go_iret hC hF dX3_move_162 rfl rfl ?_
      rw [hu, if_pos (hb.trans c133)]
      exact ⟨rfl, ⟨A, f5, hs, _, hA5.s (hA5.1.s _) (row_mv hA5.r i j hy2 hl), (k5 0 (by decide)).trans rfl⟩, (ht3.tr ht5).tr (Mto.rf.st hA5.1.2.1)⟩
    have no2 : ∀ (P : Prop), (mayM a.1 i j = true → P) → ¬ P → Go X G (hS G h1 m A (upd (g 1) (22 + 3 * i + 2) (nI j))) 0 0 113 [some (.ref m), some (.int x), some (.int (nI j)), some (.int (nI i)), some (.int (nI y.2.2)), none] [] := by
      intro P hP hn
      refine go_iconst hC (0) dX3_move_113 (by decide) ?_
      refine fin false ?_
      cases q : mayM a.1 i j with
      | true => exact absurd (hP q) hn
      | false => rfl
    refine go_aload_n hC dX3_move_29 rfl ?_
    refine go_iload_n hC dX3_move_30 rfl ?_
    refine go_iconst hC (nI 2) dX3_move_31 (by decide) ?_
    refine go_callV0 hC (c_X3_of hM1.1 i 2 (by omega) (by omega)) (lw_V q1823 q1825 qs35 q83 q1826) hM1.1.1 rfl dX3_move_32 2 rfl (by decide +kernel) rfl ⟨Nat.le_of_ble_eq_true rfl, Nat.le_of_ble_eq_true rfl⟩ (Nat.le_of_ble_eq_true rfl) ⟨rfl, rfl⟩ ?_
    rintro _ _ ⟨rfl, rfl⟩
    rw [ed]
    refine go_istore hC dX3_move_35 (by decide) ?_
    refine go_aload_n hC dX3_move_37 rfl ?_
    refine go_get hC kX3 hM1.1.1 1 q1753 dX3_move_38 rfl (by decide) (Or.inl rfl) ?_
    refine go_bipush hC (nI 22) dX3_move_41 (by decide) ?_
    refine go_iconst hC (nI 3) dX3_move_43 (by decide) ?_
    refine go_iload_n hC dX3_move_44 rfl ?_
    refine go_imul hC dX3_move_45 ?_
    refine go_iadd hC dX3_move_46 ?_
    refine go_iconst hC (nI 2) dX3_move_47 (by decide) ?_
    refine go_iadd hC dX3_move_48 ?_
    refine go_iload_n hC dX3_move_49 rfl ?_
    refine go_iast hC (22+3*i+2) hM1.1.2.1 dX3_move_50 (by first | rfl | (simp only [nI_add, pk_mul, nI_1, Int32.add_zero]; done) | (simp only [nI_add, pk_mul, nI_1, Int32.add_zero]; exact congrArg nI (by omega))) (by omega) (by omega) ?_
    refine go_aload_n hC dX3_move_51 rfl ?_
    refine go_get hC kX3 hM2.1 1 q1753 dX3_move_52 rfl (by decide) (Or.inl rfl) ?_
    refine go_bipush hC (nI 10) dX3_move_55 (by decide) ?_
    refine go_iload hC dX3_move_57 rfl ?_
    refine go_iadd hC dX3_move_59 ?_
    refine go_iald hC (10+y.2.2) hM2.2.1 dX3_move_60 (by first | rfl | (simp only [nI_add, pk_mul, nI_1, Int32.add_zero]; done) | (simp only [nI_add, pk_mul, nI_1, Int32.add_zero]; exact congrArg nI (by omega))) (by omega) (by omega) ?_
    rw [show va_up g 1 (upd (g 1) (22 + 3 * i + 2) (nI j)) 1 (10 + y.2.2) = bI (sJ a.1 y.2.2) from hr2.2.2.2.2.2.1 _ hy12]
    refine go_B_ne hC 113 dX3_move_61 (by decide) rfl (fun c61 => ?_) (fun c61 => ?_)
    · exact no2 _ (fun q => (of_decide_eq_true q).1) (by rw [hdy, c61]; decide)
    refine go_aload_n hC dX3_move_64 rfl ?_
    refine go_get hC kX3 hM2.1 1 q1753 dX3_move_65 rfl (by decide) (Or.inl rfl) ?_
    refine go_bipush hC (nI 10) dX3_move_68 (by decide) ?_
    refine go_iload_n hC dX3_move_70 rfl ?_
    refine go_iadd hC dX3_move_71 ?_
    refine go_iald hC (10+j) hM2.2.1 dX3_move_72 (by first | rfl | (simp only [nI_add, pk_mul, nI_1, Int32.add_zero]; done) | (simp only [nI_add, pk_mul, nI_1, Int32.add_zero]; exact congrArg nI (by omega))) (by omega) (by omega) ?_
    rw [show va_up g 1 (upd (g 1) (22 + 3 * i + 2) (nI j)) 1 (10 + j) = bI (sJ a.1 j) from hr2.2.2.2.2.2.1 _ (by omega)]
    refine go_B_ne hC 113 dX3_move_73 (by decide) rfl (fun c73 => ?_) (fun c73 => ?_)
    · exact no2 _ (fun q => (of_decide_eq_true q).2.1) (by rw [c73]; decide)
    refine go_aload_n hC dX3_move_76 rfl ?_
    refine go_iload_n hC dX3_move_77 rfl ?_
    refine go_callV0 hC (c_X3_loadOf hM2 hr2 hw2 j (by omega)) (lw_V q1819 q1821 qs34 q83 q1822) hM2.1 rfl dX3_move_78 1 rfl (by decide +kernel) rfl ⟨Nat.le_of_ble_eq_true rfl, Nat.le_of_ble_eq_true rfl⟩ (Nat.le_of_ble_eq_true rfl) ⟨rfl, rfl⟩ ?_
    rintro _ _ ⟨rfl, rfl⟩
    refine go_aload_n hC dX3_move_81 rfl ?_
    refine go_get hC kX3 hM2.1 1 q1753 dX3_move_82 rfl (by decide) (Or.inl rfl) ?_
    refine go_iconst hC (1) dX3_move_85 (by decide) ?_
    refine go_iald hC 1 hM2.2.1 dX3_move_86 (by first | rfl | (simp only [nI_add, pk_mul, nI_1, Int32.add_zero]; done) | (simp only [nI_add, pk_mul, nI_1, Int32.add_zero]; exact congrArg nI (by omega))) (by omega) (by omega) ?_
    rw [show va_up g 1 (upd (g 1) (22 + 3 * i + 2) (nI j)) 1 1 = sN a.1 1 from hr2.1 1 (by omega)]
    refine go_icmp_gt hC 113 dX3_move_87 (by decide) (fun c87 => ?_) (fun c87 => ?_)
    · exact no2 _ (fun q => (of_decide_eq_true q).2.2.1) (i32_nle.mpr c87)
    refine go_aload_n hC dX3_move_90 rfl ?_
    refine go_aload_n hC dX3_move_91 rfl ?_
    refine go_get hC kX3 hM2.1 1 q1753 dX3_move_92 rfl (by decide) (Or.inl rfl) ?_
    refine go_iconst hC (nI 3) dX3_move_95 (by decide) ?_
    refine go_iald hC 3 hM2.2.1 dX3_move_96 (by first | rfl | (simp only [nI_add, pk_mul, nI_1, Int32.add_zero]; done) | (simp only [nI_add, pk_mul, nI_1, Int32.add_zero]; exact congrArg nI (by omega))) (by omega) (by omega) ?_
    rw [show va_up g 1 (upd (g 1) (22 + 3 * i + 2) (nI j)) 1 3 = nI (sW a.1) from hr2.2.1]
    refine go_callV0 hC (c_X3_imbalance hM2 hr2 hw2.d (sW a.1) hw.1.w) (lw_V q1831 q1833 qs37 q83 q1834) hM2.1 rfl dX3_move_97 1 rfl (by decide +kernel) rfl ⟨Nat.le_of_ble_eq_true rfl, Nat.le_of_ble_eq_true rfl⟩ (Nat.le_of_ble_eq_true rfl) ⟨rfl, rfl⟩ ?_
    rintro _ _ ⟨rfl, rfl⟩
    refine go_aload_n hC dX3_move_100 rfl ?_
    refine go_get hC kX3 hM2.1 1 q1753 dX3_move_101 rfl (by decide) (Or.inl rfl) ?_
    refine go_iconst hC (0) dX3_move_104 (by decide) ?_
    refine go_iald hC 0 hM2.2.1 dX3_move_105 (by first | rfl | (simp only [nI_add, pk_mul, nI_1, Int32.add_zero]; done) | (simp only [nI_add, pk_mul, nI_1, Int32.add_zero]; exact congrArg nI (by omega))) (by omega) (by omega) ?_
    rw [show va_up g 1 (upd (g 1) (22 + 3 * i + 2) (nI j)) 1 0 = sN a.1 0 from hr2.1 0 (by omega)]
    refine go_icmp_gt hC 113 dX3_move_106 (by decide) (fun c106 => ?_) (fun c106 => ?_)
    · exact no2 _ (fun q => (of_decide_eq_true q).2.2.2) (i32_nle.mpr c106)
    refine go_iconst hC (1) dX3_move_109 (by decide) ?_
    refine go_goto hC 114 dX3_move_110 (by decide) ?_
    exact fin true (decide_eq_true ⟨by rw [hdy]; exact c61, c73, i32_nlt.mp c87, i32_nlt.mp c106⟩)
end M7
