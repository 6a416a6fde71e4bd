/-! A BATCH: by the nearest item -/
set_option maxRecDepth 100000
section BE
variable {G : GT} {h : PH} {b r d : Nat} {C : Nat → Nat} {bs : List Nat} {nu so sb : Nat → Int32} {t : St} {c : Nat} {B : Nat → Nat} {q L S : Nat → Int32} {Z : List Zt}
/-- an item that isn't refused is there -/
theorem re_item (hV : RV G h r d t B q L S Z) {x : Int32} (hre : reason t x = 0) : ∃ (z : Zt) (i : Nat), Z.find? (fun z => isX x z.2.2) = some z ∧ Z[i]? = some z ∧ nI (zN z) = x ∧ way t z.2.2.2.2 ≠ 99 ∧ stp t x = absI (way t z.2.2.2.2) := by
  obtain ⟨y, hy⟩ := reason0 hre
  have hi9 := hV.itmE x
  rw [hy] at hi9
  cases hf9 : Z.find? (fun z => isX x z.2.2) with
  | none => rw [hf9] at hi9; cases hi9
  | some z =>
    rw [hf9] at hi9
    have hyz : y = z.2.2 := Option.some.inj hi9
    obtain ⟨iz, hiz⟩ := List.getElem?_of_mem (List.mem_of_find?_eq_some hf9)
    have hzn : nI (zN z) = x := by have := List.find?_some hf9; simpa [isX] using this
    refine ⟨z, iz, rfl, hiz, hzn, fun w => ?_, by unfold stp; rw [hy, hyz]⟩
    unfold reason at hre
    rw [hy, hyz] at hre
    simp only [w] at hre
    split at hre
    · exact absurd hre (by decide)
    · exact absurd hre (by decide)
/-- what is told of the item that is nearest so far -/
def NS (Z : List Zt) (t : St) (xs : List Int32) (s : Option Nat) (p : Option Nat) (le : Int32) : Prop := match s with
  | none => p = none ∧ le = 0
  | some k => ∃ z, p = some z.1 ∧ z ∈ Z ∧ nI (zN z) = xs.getD k 0 ∧ reason t (xs.getD k 0) = 0 ∧ le = stp t (xs.getD k 0)
theorem c_X7_byNearest (hB : BR G h b C bs nu so sb) (hG : RG G h r d t) (hw : WF c t) (hc : c ≤ 64) (hdr : d ≠ r) (hbr : b ≠ r) : CT G yX7_byNearest cX7_byNearest 10 (some .int) (rmL 7 492 492) [.ref b, .ref r] h (fun v h' => v = some (.int (nI (pckN t (bX bs)).1)) ∧ RG G h' r d (pckN t (bX bs)).2 ∧ fr (Pr r) h h') noX := by
  refine CT_of [some (.ref b), some (.ref r), none, none, none, none, none, none, none, none] (by decide +kernel) rfl (Nat.le_of_ble_eq_true rfl) (fun X hC hF hE => ?_)
  show Go X G h 492 492 0 _ _
  have hl6 := hB.2.2.2.2.2.1
  have hbl : (bX bs).length = bs.length := List.length_map _
  have hn40 := hw.n
  have outer : ∀ (n : Nat) (t1 : St) (h1 : PH) (z4 z5 z6 z7 z8 z9 : Option Value), RG G h1 r d t1 → WF c t1 → fr (Pr r) h h1 → (n + (pckN t1 (bX bs)).1, (pckN t1 (bX bs)).2) = pckN t (bX bs) → Go X G h1 (12 * ((sI t1).length + 1)) (12 * ((sI t1).length + 1)) 4 [some (.ref b), some (.ref r), some (.int (nI n)), some (.int 1), z4, z5, z6, z7, z8, z9] [] := by
    refine lpB (fun _ t1 => (sI t1).length) (fun n t1 ih h1 z4 z5 z6 z7 z8 z9 hG1 hw1 hf1 he => ?_)
    obtain ⟨B, q, L, S, Z, hV1⟩ := hG1
    have inner : ∀ (k : Nat) (h2 : PH) (s p : Option Nat) (le : Int32) (z7 z8 z9 : Option Value), k ≤ bs.length → RV G h2 r d t1 B q L S Z → fr (Pr r) h h2 → NS Z t1 (bX bs) s p le → (List.range' k (bs.length - k)).foldl (nrf t1 (bX bs)) s = nst t1 (bX bs) → Go X G h2 (12 * ((sI t1).length + 1) - 2 * k) (12 * ((sI t1).length + 1) - 2 * k) 17 [some (.ref b), some (.ref r), some (.int (nI n)), some (.int 1), some (vO p), some (.int le), some (.int (nI k)), z7, z8, z9] [] := by
      refine lpB (fun k _ => bs.length - k) (fun k h2 ihk s p le z7 z8 z9 hk hV2 hf2 hN hfo => ?_)
      have hB2 := hB.fr hf2 (fun _ w => hbr w)
      have nxt9 : ∀ (h3 : PH) (s' p' : Option Nat) (le' : Int32) (z7 z8 z9 : Option Value), k < bs.length → RV G h3 r d t1 B q L S Z → fr (Pr r) h h3 → NS Z t1 (bX bs) s' p' le' → nrf t1 (bX bs) s k = s' → Go X G h3 (12 * ((sI t1).length + 1) - 2 * (k + 1)) (12 * ((sI t1).length + 1) - 2 * (k + 1)) 132 [some (.ref b), some (.ref r), some (.int (nI n)), some (.int 1), some (vO p'), some (.int le'), some (.int (nI k)), z7, z8, z9] [] := by
        intro h3 s' p' le' z7 z8 z9 hkl hV3 hf3 hN3 hs3
        refine go_iinc hC (v := nI (k + 1)) dX7_byNearest_132 rfl (nI_1 _) (by decide) ?_
        refine go_goto hC 17 dX7_byNearest_135 (by decide) ?_
        refine ihk (k + 1) h3 (by omega) s' p' le' _ _ _ (by omega) hV3 hf3 hN3 ?_
        rw [rg_c hkl, List.foldl_cons, hs3] at hfo
        exact hfo
      refine go_iload hC dX7_byNearest_17 rfl ?_
      refine go_aload_n hC dX7_byNearest_19 rfl ?_
      refine go_get hC kX7 hB2.1 3 q656 dX7_byNearest_20 rfl (by decide) (Or.inl rfl) ?_
      refine go_N_ge hC 138 dX7_byNearest_23 (by decide) rfl rfl (by omega) (by omega) (fun c23 => ?_) (fun c23 => ?_)
      · rw [rg_e (by omega)] at hfo
        have hfo : s = nst t1 (bX bs) := hfo
        cases s with
        | none =>
          obtain ⟨rfl, rfl⟩ := hN
          refine go_aloadN hC dX7_byNearest_138 rfl ?_
          refine go_ifnullN hC 147 dX7_byNearest_140 (by decide) ?_
          refine go_iconst hC (0) dX7_byNearest_147 (by decide) ?_
          refine go_istore_n hC dX7_byNearest_148 (by decide) ?_
          refine go_iload_n hC dX7_byNearest_149 rfl ?_
          refine go_if_eq hC 163 dX7_byNearest_150 (by decide) (fun _ => ?_) (fun z => absurd rfl z)
          refine go_goto hC 4 dX7_byNearest_163 (by decide) ?_
          refine go_iload_n hC dX7_byNearest_4 rfl ?_
          refine go_if_eq hC 166 dX7_byNearest_5 (by decide) (fun _ => ?_) (fun z => absurd rfl z)
          refine go_iload_n hC dX7_byNearest_166 rfl ?_
          refine go_iret hC hF dX7_byNearest_167 rfl rfl ?_
          rw [pckN_0 hfo.symm] at he
          rw [← he]
          exact ⟨rfl, ⟨B, q, L, S, Z, hV2⟩, hf2⟩
        | some kk =>
          obtain ⟨z, rfl, hzm, hzn, hre, rfl⟩ := hN
          obtain ⟨z', iz, hzf, hiz, hzn', hway, hst⟩ := re_item hV2 hre
          have hzz : z = z' := by
            have hz'm := List.mem_of_getElem? hiz
            obtain ⟨i0, hi0⟩ := List.getElem?_of_mem hzm
            have e1 := (zi_pos hV2 hw1 hi0).1
            have e2 := (zi_pos hV2 hw1 hiz).1
            rw [hzn] at e1
            rw [hzn'] at e2
            rw [e1] at e2
            cases e2
            rw [hi0] at hiz
            exact Option.some.inj hiz
          subst hzz
          have hlen := len_pck (t := t1) (x := (bX bs).getD kk 0) (reason0 hre).choose_spec
          have hk1 := nst_ok hfo.symm
          refine go_aload hC dX7_byNearest_138 rfl ?_
          refine go_ifnull hC dX7_byNearest_140 ?_
          refine go_iconst hC (1) dX7_byNearest_143 (by decide) ?_
          refine go_goto hC 148 dX7_byNearest_144 (by decide) ?_
          refine go_istore_n hC dX7_byNearest_148 (by decide) ?_
          refine go_iload_n hC dX7_byNearest_149 rfl ?_
          refine go_if_eq hC 163 dX7_byNearest_150 (by decide) (fun z => absurd z (by decide)) (fun _ => ?_)
          refine go_aload_n hC dX7_byNearest_153 rfl ?_
          refine go_aload hC dX7_byNearest_154 rfl ?_
          refine go_callV0 hC (c_X2_pick hV2 hw1 hdr hiz hway) (lw_V q1435 q1436 q1437 q73 q1438) hV2.1.1 rfl dX7_byNearest_156 1 rfl (by decide +kernel) rfl ⟨Nat.le_of_ble_eq_true rfl, Nat.le_of_ble_eq_true rfl⟩ (Nat.le_of_ble_eq_true rfl) ⟨rfl, rfl⟩ ?_
          rintro _ h4 ⟨rfl, ⟨q4, L4, hV4⟩, hf4⟩
          refine go_pop hC dX7_byNearest_159 rfl ?_
          refine go_iinc hC (v := nI (n + 1)) dX7_byNearest_160 rfl (nI_1 _) (by decide) ?_
          refine go_goto hC 4 dX7_byNearest_163 (by decide) ?_
          rw [hzn] at hV4
          rw [pckN_s hfo.symm] at he
          refine go_le (k' := 12 * ((sI (pck t1 ((bX bs).getD kk 0))).length + 1)) (n' := 12 * ((sI (pck t1 ((bX bs).getD kk 0))).length + 1)) (by omega) (by omega) ?_
          refine ih (n + 1) (pck t1 ((bX bs).getD kk 0)) (by omega) h4 _ _ _ _ _ _ ⟨B, q4, L4, S, _, hV4⟩ (WF_pck hw1 _) (hf2.tr hf4) ?_
          rw [← he]
          refine Prod.ext ?_ rfl
          show n + 1 + _ = n + (_ + 1)
          omega
      · obtain ⟨x, hx, -⟩ := get_of c23
        have ex := bX_get hx
        have hx2 := hB2.2.2.2.2.1 k x hx
        have hx3 := hB.2.2.2.2.1 k x hx
        refine go_aload_n hC dX7_byNearest_26 rfl ?_
        refine go_aload_n hC dX7_byNearest_27 rfl ?_
        refine go_get hC kX7 hB2.1 0 q652 dX7_byNearest_28 rfl (by decide) (Or.inl rfl) ?_
        refine go_iload hC dX7_byNearest_31 rfl ?_
        refine go_iald hC k hB2.2.1 dX7_byNearest_33 (by first | rfl | (simp only [nI_add, pk_mul, nI_1, Int32.add_zero]; done) | (simp only [nI_add, pk_mul, nI_1, Int32.add_zero]; exact congrArg nI (by omega))) (by omega) (by omega) ?_
        rw [hx3]
        refine go_callV hC (c_X2_refusal hV2 hw1 hc (nI x)) (lw_V q1433 q724 q725 q73 q726) hV2.1.1 rfl dX7_byNearest_34 1 rfl (by decide +kernel) rfl ⟨Nat.le_of_ble_eq_true rfl, Nat.le_of_ble_eq_true rfl⟩ (Nat.le_of_ble_eq_true rfl) (show 1 ≤ 12 * ((sI t1).length + 1) - 2 * k by omega) (show 1 ≤ 12 * ((sI t1).length + 1) - 2 * k by omega) ?_
        rintro _ h3 ⟨rfl, hf3⟩
        refine go_if_ne hC 54 dX7_byNearest_37 (by decide) (fun c37 => ?_) (fun c37 => ?_)
        · have hV3 := hV2.fr hf3 (fun w => w) (fun _ _ w => w)
          have hnr : nrf t1 (bX bs) s k = s := by unfold nrf; rw [ex, if_neg (show ¬ reason t1 (nI x) = 0 from c37)]
          have hg := fun (z7 z8 z9 : Option Value) => nxt9 h3 s p le z7 z8 z9 c23 hV3 (hf2.tr (fr0 hf3)) hN hnr
          have fin9 : ∀ (z7 z8 : Option Value), Go X G h3 (12 * ((sI t1).length + 1) - 2 * k - 1) (12 * ((sI t1).length + 1) - 2 * k - 1) 132 [some (.ref b), some (.ref r), some (.int (nI n)), some (.int 1), some (vO p), some (.int le), some (.int (nI k)), z7, z8, some (.int 0)] [] := fun z7 z8 => go_le (by omega) (by omega) (hg z7 z8 _)
          cases p with
          | none =>
            refine go_null hC dX7_byNearest_54 ?_
            refine go_astoreN hC dX7_byNearest_55 (by decide) ?_
            refine go_aloadN hC dX7_byNearest_57 rfl ?_
            refine go_ifnonnullN hC dX7_byNearest_59 ?_
            refine go_iconst hC (0) dX7_byNearest_62 (by decide) ?_
            refine go_goto hC 78 dX7_byNearest_63 (by decide) ?_
            refine go_istore hC dX7_byNearest_78 (by decide) ?_
            refine go_aloadN hC dX7_byNearest_80 rfl ?_
            refine go_ifnullN hC 101 dX7_byNearest_82 (by decide) ?_
            refine go_iconst hC (0) dX7_byNearest_101 (by decide) ?_
            refine go_istore hC dX7_byNearest_102 (by decide) ?_
            refine go_iload hC dX7_byNearest_104 rfl ?_
            refine go_if_eq hC 114 dX7_byNearest_106 (by decide) (fun _ => ?_) (fun z => absurd rfl z)
            refine go_aloadN hC dX7_byNearest_114 rfl ?_
            refine go_astoreN hC dX7_byNearest_116 (by decide) ?_
            refine go_iload hC dX7_byNearest_118 rfl ?_
            refine go_if_eq hC 128 dX7_byNearest_120 (by decide) (fun _ => ?_) (fun z => absurd rfl z)
            refine go_iload hC dX7_byNearest_128 rfl ?_
            refine go_istore hC dX7_byNearest_130 (by decide) ?_
            exact fin9 _ _
          | some pa =>
            refine go_null hC dX7_byNearest_54 ?_
            refine go_astoreN hC dX7_byNearest_55 (by decide) ?_
            refine go_aloadN hC dX7_byNearest_57 rfl ?_
            refine go_ifnonnullN hC dX7_byNearest_59 ?_
            refine go_iconst hC (0) dX7_byNearest_62 (by decide) ?_
            refine go_goto hC 78 dX7_byNearest_63 (by decide) ?_
            refine go_istore hC dX7_byNearest_78 (by decide) ?_
            refine go_aloadN hC dX7_byNearest_80 rfl ?_
            refine go_ifnullN hC 101 dX7_byNearest_82 (by decide) ?_
            refine go_iconst hC (0) dX7_byNearest_101 (by decide) ?_
            refine go_istore hC dX7_byNearest_102 (by decide) ?_
            refine go_iload hC dX7_byNearest_104 rfl ?_
            refine go_if_eq hC 114 dX7_byNearest_106 (by decide) (fun _ => ?_) (fun z => absurd rfl z)
            refine go_aload hC dX7_byNearest_114 rfl ?_
            refine go_astore hC dX7_byNearest_116 (by decide) ?_
            refine go_iload hC dX7_byNearest_118 rfl ?_
            refine go_if_eq hC 128 dX7_byNearest_120 (by decide) (fun _ => ?_) (fun z => absurd rfl z)
            refine go_iload hC dX7_byNearest_128 rfl ?_
            refine go_istore hC dX7_byNearest_130 (by decide) ?_
            exact fin9 _ _
        · have hre : reason t1 (nI x) = 0 := c37
          obtain ⟨z, iz, hzf, hiz, hzn, hway, hst⟩ := re_item hV2 hre
          have hV3 := hV2.fr hf3 (fun w => w) (fun _ _ w => w)
          have hB3 := hB2.fr (fr0 (P := Pr r) hf3) (fun _ w => hbr w)
          have hzm := List.mem_of_getElem? hiz
          have hd12 := (hV2.mem hw1 hzm).2
          refine go_aload_n hC dX7_byNearest_40 rfl ?_
          refine go_aload_n hC dX7_byNearest_41 rfl ?_
          refine go_get hC kX7 hB3.1 0 q652 dX7_byNearest_42 rfl (by decide) (Or.inl rfl) ?_
          refine go_iload hC dX7_byNearest_45 rfl ?_
          refine go_iald hC k hB3.2.1 dX7_byNearest_47 (by first | rfl | (simp only [nI_add, pk_mul, nI_1, Int32.add_zero]; done) | (simp only [nI_add, pk_mul, nI_1, Int32.add_zero]; exact congrArg nI (by omega))) (by omega) (by omega) ?_
          rw [hx3]
          refine go_callV hC (c_X2_item hV3 hw1 hc (nI x)) (lw_V q1434 q728 q729 q73 q730) hV3.1.1 rfl dX7_byNearest_48 1 rfl (by decide +kernel) rfl ⟨Nat.le_of_ble_eq_true rfl, Nat.le_of_ble_eq_true rfl⟩ (Nat.le_of_ble_eq_true rfl) (show 1 ≤ 12 * ((sI t1).length + 1) - 2 * k - 1 by omega) (show 1 ≤ 12 * ((sI t1).length + 1) - 2 * k - 1 by omega) ?_
          rintro _ h4 ⟨rfl, hf4⟩
          have hV4 := hV3.fr hf4 (fun w => w) (fun _ _ w => w)
          have zc4 := (hV4.2.2.2.2.1.2.2 z hzm).2.1
          have hf24 : fr (Pr r) h h4 := (hf2.tr (fr0 hf3)).tr (fr0 hf4)
          rw [hzf]
          have yes : nrf t1 (bX bs) s k = some k → Go X G h4 (12 * ((sI t1).length + 1) - 2 * k - 1 - 1) (12 * ((sI t1).length + 1) - 2 * k - 1 - 1) 97 [some (.ref b), some (.ref r), some (.int (nI n)), some (.int 1), some (vO p), some (.int le), some (.int (nI k)), some (.ref z.1), some (.int (absI (way t1 z.2.2.2.2))), z9] [] := by
            intro hnr
            refine go_iconst hC (1) dX7_byNearest_97 (by decide) ?_
            refine go_goto hC 102 dX7_byNearest_98 (by decide) ?_
            refine go_istore hC dX7_byNearest_102 (by decide) ?_
            refine go_iload hC dX7_byNearest_104 rfl ?_
            refine go_if_eq hC 114 dX7_byNearest_106 (by decide) (fun z => absurd z (by decide)) (fun _ => ?_)
            refine go_aload hC dX7_byNearest_109 rfl ?_
            refine go_goto hC 116 dX7_byNearest_111 (by decide) ?_
            refine go_astore hC dX7_byNearest_116 (by decide) ?_
            refine go_iload hC dX7_byNearest_118 rfl ?_
            refine go_if_eq hC 128 dX7_byNearest_120 (by decide) (fun z => absurd z (by decide)) (fun _ => ?_)
            refine go_iload hC dX7_byNearest_123 rfl ?_
            refine go_goto hC 130 dX7_byNearest_125 (by decide) ?_
            refine go_istore hC dX7_byNearest_130 (by decide) ?_
            refine go_le (k' := 12 * ((sI t1).length + 1) - 2 * (k + 1)) (n' := 12 * ((sI t1).length + 1) - 2 * (k + 1)) (by omega) (by omega) ?_
            exact nxt9 h4 (some k) (some z.1) _ _ _ _ c23 hV4 hf24 ⟨z, rfl, hzm, by rw [hzn, ex], by rw [ex]; exact hre, by rw [ex]; exact hst.symm⟩ hnr
          cases s with
          | none =>
            obtain ⟨rfl, rfl⟩ := hN
            refine go_goto hC 55 dX7_byNearest_51 (by decide) ?_
            refine go_astore hC dX7_byNearest_55 (by decide) ?_
            refine go_aload hC dX7_byNearest_57 rfl ?_
            refine go_ifnonnull hC 66 dX7_byNearest_59 (by decide) ?_
            refine go_aload_n hC dX7_byNearest_66 rfl ?_
            refine go_aload hC dX7_byNearest_67 rfl ?_
            refine go_getN hC kX4 zc4 2 q1234 dX7_byNearest_69 rfl (by decide) (Or.inl rfl) ?_
            refine go_callV0 hC (c_X2_way hV4.1 hw1.w z.2.2.2.2 hd12) (lw_V q1476 q1095 q1096 q73 q1097) hV4.1.1 rfl dX7_byNearest_72 1 rfl (by decide +kernel) rfl ⟨Nat.le_of_ble_eq_true rfl, Nat.le_of_ble_eq_true rfl⟩ (Nat.le_of_ble_eq_true rfl) ⟨rfl, rfl⟩ ?_
            rintro _ _ ⟨rfl, rfl⟩
            rw [hV4.wayE hw1]
            refine go_abs hC q1477 q1111 q90 q1112 ⟨Nat.le_of_ble_eq_true rfl, Nat.le_of_ble_eq_true rfl⟩ (Nat.le_of_ble_eq_true rfl) dX7_byNearest_75 ?_
            rw [abs_if]
            refine go_istore hC dX7_byNearest_78 (by decide) ?_
            refine go_aload hC dX7_byNearest_80 rfl ?_
            refine go_ifnull hC dX7_byNearest_82 ?_
            refine go_aloadN hC dX7_byNearest_85 rfl ?_
            refine go_ifnullN hC 97 dX7_byNearest_87 (by decide) ?_
            exact yes (by unfold nrf; rw [ex, if_pos hre])
          | some kk =>
            obtain ⟨z0, rfl, hz0m, hz0n, hz0r, rfl⟩ := hN
            have hnr : nrf t1 (bX bs) (some kk) k = if stp t1 (nI x) < stp t1 ((bX bs).getD kk 0) then some k else some kk := by unfold nrf; rw [ex, if_pos hre]
            refine go_goto hC 55 dX7_byNearest_51 (by decide) ?_
            refine go_astore hC dX7_byNearest_55 (by decide) ?_
            refine go_aload hC dX7_byNearest_57 rfl ?_
            refine go_ifnonnull hC 66 dX7_byNearest_59 (by decide) ?_
            refine go_aload_n hC dX7_byNearest_66 rfl ?_
            refine go_aload hC dX7_byNearest_67 rfl ?_
            refine go_getN hC kX4 zc4 2 q1234 dX7_byNearest_69 rfl (by decide) (Or.inl rfl) ?_
            refine go_callV0 hC (c_X2_way hV4.1 hw1.w z.2.2.2.2 hd12) (lw_V q1476 q1095 q1096 q73 q1097) hV4.1.1 rfl dX7_byNearest_72 1 rfl (by decide +kernel) rfl ⟨Nat.le_of_ble_eq_true rfl, Nat.le_of_ble_eq_true rfl⟩ (Nat.le_of_ble_eq_true rfl) ⟨rfl, rfl⟩ ?_
            rintro _ _ ⟨rfl, rfl⟩
            rw [hV4.wayE hw1]
            refine go_abs hC q1477 q1111 q90 q1112 ⟨Nat.le_of_ble_eq_true rfl, Nat.le_of_ble_eq_true rfl⟩ (Nat.le_of_ble_eq_true rfl) dX7_byNearest_75 ?_
            rw [abs_if]
            refine go_istore hC dX7_byNearest_78 (by decide) ?_
            refine go_aload hC dX7_byNearest_80 rfl ?_
            refine go_ifnull hC dX7_byNearest_82 ?_
            refine go_aload hC dX7_byNearest_85 rfl ?_
            refine go_ifnull hC dX7_byNearest_87 ?_
            refine go_iload hC dX7_byNearest_90 rfl ?_
            refine go_iload hC dX7_byNearest_92 rfl ?_
            refine go_icmp_ge hC 101 dX7_byNearest_94 (by decide) (fun c94 => ?_) (fun c94 => ?_)
            · have hlt : ¬ stp t1 (nI x) < stp t1 ((bX bs).getD kk 0) := by rw [hst]; exact i32_nlt.mpr c94
              refine go_iconst hC (0) dX7_byNearest_101 (by decide) ?_
              refine go_istore hC dX7_byNearest_102 (by decide) ?_
              refine go_iload hC dX7_byNearest_104 rfl ?_
              refine go_if_eq hC 114 dX7_byNearest_106 (by decide) (fun _ => ?_) (fun z => absurd rfl z)
              refine go_aload hC dX7_byNearest_114 rfl ?_
              refine go_astore hC dX7_byNearest_116 (by decide) ?_
              refine go_iload hC dX7_byNearest_118 rfl ?_
              refine go_if_eq hC 128 dX7_byNearest_120 (by decide) (fun _ => ?_) (fun z => absurd rfl z)
              refine go_iload hC dX7_byNearest_128 rfl ?_
              refine go_istore hC dX7_byNearest_130 (by decide) ?_
              refine go_le (k' := 12 * ((sI t1).length + 1) - 2 * (k + 1)) (n' := 12 * ((sI t1).length + 1) - 2 * (k + 1)) (show 12 * ((sI t1).length + 1) - 2 * (k + 1) ≤ 12 * ((sI t1).length + 1) - 2 * k - 1 - 1 by omega) (show 12 * ((sI t1).length + 1) - 2 * (k + 1) ≤ 12 * ((sI t1).length + 1) - 2 * k - 1 - 1 by omega) ?_
              exact nxt9 h4 (some kk) (some z0.1) _ _ _ _ c23 hV4 hf24 ⟨z0, rfl, hz0m, hz0n, hz0r, rfl⟩ (by rw [hnr, if_neg hlt])
            · have hlt : stp t1 (nI x) < stp t1 ((bX bs).getD kk 0) := by rw [hst]; exact i32_nle.mp c94
              exact yes (by rw [hnr, if_pos hlt])
    have hB1 := hB.fr hf1 (fun _ w => hbr w)
    refine go_iload_n hC dX7_byNearest_4 rfl ?_
    refine go_if_eq hC 166 dX7_byNearest_5 (by decide) (fun z => absurd z (by decide)) (fun _ => ?_)
    refine go_null hC dX7_byNearest_8 ?_
    refine go_astoreN hC dX7_byNearest_9 (by decide) ?_
    refine go_iconst hC (0) dX7_byNearest_11 (by decide) ?_
    refine go_istore hC dX7_byNearest_12 (by decide) ?_
    refine go_iconst hC (0) dX7_byNearest_14 (by decide) ?_
    refine go_istore hC dX7_byNearest_15 (by decide) ?_
    exact inner 0 h1 none none 0 _ _ _ (Nat.zero_le _) hV1 hf1 ⟨rfl, rfl⟩ (by unfold nst; rw [hbl]; rfl)
  refine go_iconst hC (0) dX7_byNearest_0 (by decide) ?_
  refine go_istore_n hC dX7_byNearest_1 (by decide) ?_
  refine go_iconst hC (1) dX7_byNearest_2 (by decide) ?_
  refine go_istore_n hC dX7_byNearest_3 (by decide) ?_
  refine go_le (k' := 12 * ((sI t).length + 1)) (n' := 12 * ((sI t).length + 1)) (by omega) (by omega) ?_
  exact outer 0 t h _ _ _ _ _ _ hG hw fr.rf (by rw [Nat.zero_add])
end BE
