/-! A BATCH: the steps of an order, in a ring that is given back as it was -/
set_option maxRecDepth 100000
section BS2
variable {G : GT} {h : PH} {b r r2 d : Nat} {C : Nat → Nat} {bs : List Nat} {nu so sb : Nat → Int32} {t : St} {c : Nat} {B B2 : Nat → Nat} {q L S q2 L2 S2 : Nat → Int32} {Z Z2 : List Zt}
/-- the items of a batch in an order of its places -/
def zsO (zs : List Zt) (p : List Nat) : List It := p.filterMap (fun j => (zs[j]?).map (fun z => z.2.2))
theorem c_X7_steps (hB : BR G h b C bs nu so sb) (hV : RV G h r d t B q L S Z) (hV2 : RV G h r2 d t B2 q2 L2 S2 Z2) (hw : WF c t) (hc : c ≤ 64) (hdr : d ≠ r) (hbr : b ≠ r) (hne : r ≠ r2) (p : List Nat) (hp : arL so p) (hpl : p.length = bs.length) (hpb : ∀ x ∈ p, x < bs.length) (a : Nat) (f : Nat → Option Nat) (zs : List Zt) (ha : h a = some ((b, 4), oa G 6 bs.length f)) (hzl : zs.length = bs.length) (hzs : ∀ (k : Nat) (z : Zt), zs[k]? = some z → f k = some z.1 ∧ z ∈ Z) : CT G yX7_steps cX7_steps 9 (some .int) (rmL 4 0 0) [.ref b, .ref r, .ref r2, .ref a] h (fun v h' => v = some (.int (if (lsR S (zsO zs p) L (sW t) 0).1 = true then (lsR S (zsO zs p) L (sW t) 0).2 else -1)) ∧ (∃ L', RV G h' r d t B q L' S Z) ∧ fr (Pr r) h h') noX := by
  refine CT_of [some (.ref b), some (.ref r), some (.ref r2), some (.ref a), none, none, none, none, none] (by decide +kernel) rfl (Nat.le_of_ble_eq_true rfl) (fun X hC hF hE => ?_)
  have hl6 := hB.2.2.2.2.2.1
  have p2 : ∀ o : Ow, o.1 = r2 → ¬ Pr r o := fun o h1 h2 => hne (h2.symm.trans h1)
  have p9 : ¬ Pr r (d, 9) := fun e => hdr e
  have nb : ∀ i, ¬ Pr r (b, i) := fun _ w => hbr w
  -- the end: the ring is given back
  have fin : ∀ (h1 : PH) (L1 : Nat → Int32) (w1 : Nat) (n : Int32) (z : Bool) (z6 z7 z8 : Option Value), RO G h1 r B w1 (sC t) q L1 S (sJ t) → LI G h1 r d B Z → fr (Pr r) h h1 → (z, n) = lsR S (zsO zs p) L (sW t) 0 → Go X G h1 0 0 102 [some (.ref b), some (.ref r), some (.ref r2), some (.ref a), some (.int n), some (.int (bI z)), z6, z7, z8] [] := by
    intro h1 L1 w1 n z z6 z7 z8 hR1 hI1 hf1 he
    have hW1 := hV2.fr hf1 p9 p2
    have hR2 := hR1.ld (va_cpy L2 L1 0 0 12)
    have hI2 := hI1.up (e' := ia G 12 (va_cpy L2 L1 0 0 12)) hR1.2.1 (by omega)
    have hf2 : fr (Pr r) h (hu h1 (B 2) (r, 3) (ia G 12 (va_cpy L2 L1 0 0 12))) := hf1.up hR1.2.1 rfl
    have hW2 : RV G (hu h1 (B 2) (r, 3) (ia G 12 (va_cpy L2 L1 0 0 12))) r2 d t B2 q2 L2 S2 Z2 := hW1.fr (P := Pr r) (fr.rf.up hR1.2.1 rfl) p9 p2
    have c12 : ∀ o, o < 12 → va_cpy L2 L1 0 0 12 o = L2 o := fun o ho => by
      rw [pk_cpy_in (Nat.zero_le _) (by omega)]; exact congrArg L2 (by omega)
    refine go_aload_n hC dX7_steps_102 rfl ?_
    refine go_getN hC kX2 hW1.1.1 2 q188 dX7_steps_103 rfl (by decide) (Or.inl rfl) ?_
    refine go_iconst hC (0) dX7_steps_106 (by decide) ?_
    refine go_aload_n hC dX7_steps_107 rfl ?_
    refine go_getN hC kX2 hR1.1 2 q188 dX7_steps_108 rfl (by decide) (Or.inl rfl) ?_
    refine go_iconst hC (0) dX7_steps_111 (by decide) ?_
    refine go_bipush hC (nI 12) dX7_steps_112 (by decide) ?_
    refine go_copyi hC 0 0 12 q1492 q357 q356 q94 rfl rfl hW1.1.2.1 hR1.2.1 rfl rfl rfl (by omega) (by omega) (by omega) (by omega) (fun _ _ => rfl) ⟨Nat.le_of_ble_eq_true rfl, Nat.le_of_ble_eq_true rfl⟩ (Nat.le_of_ble_eq_true rfl) dX7_steps_114 ?_
    generalize hu h1 (B 2) (r, 3) (ia G 12 (va_cpy L2 L1 0 0 12)) = h2 at hR2 hI2 hf2 hW2
    have back : RV G (hu h2 r (r, 0) (ob 1 (rfs B (sW t) (sC t) q))) r d t B q (va_cpy L2 L1 0 0 12) S Z := ⟨hR2.ob, hV.2.1, fun o ho => by rw [c12 o ho]; exact hV2.2.2.1 o ho, hV.2.2.2.1, hI2.up hR2.1 (by omega), hV.2.2.2.2.2⟩
    have hf3 : fr (Pr r) h (hu h2 r (r, 0) (ob 1 (rfs B (sW t) (sC t) q))) := hf2.up hR2.1 rfl
    refine go_aload_n hC dX7_steps_117 rfl ?_
    refine go_aload_n hC dX7_steps_118 rfl ?_
    refine go_getN hC kX2 hW2.1.1 5 q196 dX7_steps_119 rfl (by decide) (Or.inl rfl) ?_
    refine go_putN hC kX2 hR2.1 5 q196 dX7_steps_122 (by decide) (Nat.le_of_ble_eq_true rfl) (Or.inl rfl) rfl rfl rfl ?_
    refine go_iload hC dX7_steps_125 rfl ?_
    refine go_B_eq hC 135 dX7_steps_127 (by decide) rfl (fun c127 => ?_) (fun c127 => ?_)
    · refine go_iconst hC (-1) dX7_steps_135 (by decide) ?_
      refine go_iret hC hF dX7_steps_136 rfl rfl ?_
      exact ⟨by rw [← he, c127]; rfl, ⟨_, back⟩, hf3⟩
    · refine go_iload hC dX7_steps_130 rfl ?_
      refine go_goto hC 136 dX7_steps_132 (by decide) ?_
      refine go_iret hC hF dX7_steps_136 rfl rfl ?_
      exact ⟨by rw [← he, c127]; rfl, ⟨_, back⟩, hf3⟩
  have loop : ∀ (k : Nat) (h1 : PH) (L1 : Nat → Int32) (w1 : Nat) (n : Int32) (z7 z8 : Option Value), k ≤ bs.length → w1 < 12 → RO G h1 r B w1 (sC t) q L1 S (sJ t) → LI G h1 r d B Z → fr (Pr r) h h1 → lsR S (zsO zs (p.drop k)) L1 w1 n = lsR S (zsO zs p) L (sW t) 0 → Go X G h1 0 0 9 [some (.ref b), some (.ref r), some (.ref r2), some (.ref a), some (.int n), some (.int 1), some (.int (nI k)), z7, z8] [] := by
    refine lpE (fun k _ _ _ _ => bs.length - k) (fun k h1 L1 w1 n ih z7 z8 hk hw1 hR1 hI1 hf1 he => ?_)
    have hB1 := hB.fr hf1 nb
    refine go_iload hC dX7_steps_9 rfl ?_
    refine go_aload_n hC dX7_steps_11 rfl ?_
    refine go_get hC kX7 hB1.1 3 q656 dX7_steps_12 rfl (by decide) (Or.inl rfl) ?_
    refine go_N_ge hC 102 dX7_steps_15 (by decide) rfl rfl (by omega) (by omega) (fun c15 => ?_) (fun c15 => ?_)
    · rw [drop_end (by omega)] at he
      exact fin h1 L1 w1 n true _ _ _ hR1 hI1 hf1 he
    · obtain ⟨x, hx, hdr2⟩ := get_of (show k < p.length by omega)
      have hxb := hpb x (List.mem_of_getElem? hx)
      obtain ⟨z, hz, -⟩ := get_of (show x < zs.length by omega)
      obtain ⟨hfx, hzm⟩ := hzs x z hz
      have zc := (hI1.2.2 z hzm).2.1
      have hd12 := (hV.mem hw hzm).2
      have ha1 := hf1 _ _ _ ha (nb _)
      have ezs : zsO zs (x :: p.drop (k + 1)) = z.2.2 :: zsO zs (p.drop (k + 1)) := by
        unfold zsO
        rw [List.filterMap_cons, hz]
        rfl
      rw [hdr2, ezs] at he
      have hR2 := hR1.ob (w' := z.2.2.2.2) (nb' := sC t) (q' := q)
      have hI2 := hI1.up (e' := ob 1 (rfs B z.2.2.2.2 (sC t) q)) hR1.1 (by omega)
      have zc2 := (hI2.2.2 z hzm).2.1
      have hf2 : fr (Pr r) h (hu h1 r (r, 0) (ob 1 (rfs B z.2.2.2.2 (sC t) q))) := hf1.up hR1.1 rfl
      have hR3 := hR2.ld (upd L1 z.2.2.2.2 (L1 z.2.2.2.2 - z.2.2.2.1))
      have hI3 := hI2.up (e' := ia G 12 (upd L1 z.2.2.2.2 (L1 z.2.2.2.2 - z.2.2.2.1))) hR2.2.1 (by omega)
      have hf3 := hf2.up (e' := ia G 12 (upd L1 z.2.2.2.2 (L1 z.2.2.2.2 - z.2.2.2.1))) (o2 := (r, 3)) hR2.2.1 rfl
      have tail : ∀ (y : Bool) (z8 : Int32), y = decide (¬ wayR L1 S w1 z.2.2.2.2 = 99) → z8 = wayR L1 S w1 z.2.2.2.2 → Go X G h1 0 0 57 [some (.ref b), some (.ref r), some (.ref r2), some (.ref a), some (.int n), some (.int 1), some (.int (nI k)), some (.ref z.1), some (.int z8)] [.int (bI y)] := by
        intro y z8 hy hz8
        subst hz8
        refine go_istore hC dX7_steps_57 (by decide) ?_
        refine go_iload hC dX7_steps_59 rfl ?_
        refine go_iload hC dX7_steps_61 rfl ?_
        refine go_abs hC q1477 q1111 q90 q1112 ⟨Nat.le_of_ble_eq_true rfl, Nat.le_of_ble_eq_true rfl⟩ (Nat.le_of_ble_eq_true rfl) dX7_steps_63 ?_
        rw [abs_if]
        refine go_iadd hC dX7_steps_66 ?_
        refine go_istore hC dX7_steps_67 (by decide) ?_
        refine go_aload_n hC dX7_steps_69 rfl ?_
        refine go_aload hC dX7_steps_70 rfl ?_
        refine go_getN hC kX4 zc 2 q1234 dX7_steps_72 rfl (by decide) (Or.inl rfl) ?_
        refine go_putN hC kX2 hR1.1 5 q196 dX7_steps_75 (by decide) (Nat.le_of_ble_eq_true rfl) (Or.inl rfl) rfl rfl rfl ?_
        refine go_aload_n hC dX7_steps_78 rfl ?_
        refine go_getN hC kX2 hR2.1 2 q188 dX7_steps_79 rfl (by decide) (Or.inl rfl) ?_
        refine go_aload hC dX7_steps_82 rfl ?_
        refine go_getN hC kX4 zc2 2 q1234 dX7_steps_84 rfl (by decide) (Or.inl rfl) ?_
        refine go_dup2 hC dX7_steps_87 rfl rfl ?_
        refine go_iald hC z.2.2.2.2 hR2.2.1 dX7_steps_88 (by first | rfl | (simp only [nI_add, pk_mul, nI_1, Int32.add_zero]; done) | (simp only [nI_add, pk_mul, nI_1, Int32.add_zero]; exact congrArg nI (by omega))) (by omega) (by omega) ?_
        refine go_aload hC dX7_steps_89 rfl ?_
        refine go_getN hC kX4 zc2 1 q1230 dX7_steps_91 rfl (by decide) (Or.inl rfl) ?_
        refine go_isub hC dX7_steps_94 ?_
        refine go_iast hC z.2.2.2.2 hR2.2.1 dX7_steps_95 (by first | rfl | (simp only [nI_add, pk_mul, nI_1, Int32.add_zero]; done) | (simp only [nI_add, pk_mul, nI_1, Int32.add_zero]; exact congrArg nI (by omega))) (by omega) (by omega) ?_
        refine go_iinc hC (v := nI (k + 1)) dX7_steps_96 rfl (nI_1 _) (by decide) ?_
        rw [show lsR S (z.2.2 :: zsO zs (p.drop (k + 1))) L1 w1 n = ite _ _ _ from rfl] at he
        cases y with
        | false =>
          have hq : wayR L1 S w1 z.2.2.2.2 = 99 := Decidable.of_not_not (of_decide_eq_false hy.symm)
          rw [if_pos hq] at he
          refine go_goto hC 9 dX7_steps_99 (by decide) ?_
          refine go_iload hC dX7_steps_9 rfl ?_
          refine go_aload_n hC dX7_steps_11 rfl ?_
          refine go_get hC kX7 (hB.fr hf3 nb).1 3 q656 dX7_steps_12 rfl (by decide) (Or.inl rfl) ?_
          refine go_N_ge hC 102 dX7_steps_15 (by decide) rfl rfl (by omega) (by omega) (fun c15 => ?_) (fun c15 => ?_)
          · exact fin _ _ _ _ false _ _ _ hR3 hI3 hf3 he
          · refine go_iload hC dX7_steps_18 rfl ?_
            refine go_if_eq hC 102 dX7_steps_20 (by decide) (fun _ => ?_) (fun z => absurd rfl z)
            exact fin _ _ _ _ false _ _ _ hR3 hI3 hf3 he
        | true =>
          have hq : ¬ wayR L1 S w1 z.2.2.2.2 = 99 := of_decide_eq_true hy.symm
          rw [if_neg hq] at he
          refine go_goto hC 9 dX7_steps_99 (by decide) ?_
          exact ih (k + 1) _ _ _ _ (by omega) _ _ (by omega) hd12 hR3 hI3 hf3 he
      refine go_iload hC dX7_steps_18 rfl ?_
      refine go_if_eq hC 102 dX7_steps_20 (by decide) (fun z => absurd z (by decide)) (fun _ => ?_)
      refine go_aload_n hC dX7_steps_23 rfl ?_
      refine go_aload_n hC dX7_steps_24 rfl ?_
      refine go_get hC kX7 hB1.1 1 q654 dX7_steps_25 rfl (by decide) (Or.inl rfl) ?_
      refine go_iload hC dX7_steps_28 rfl ?_
      refine go_iald hC k hB1.2.2.1 dX7_steps_30 (by first | rfl | (simp only [nI_add, pk_mul, nI_1, Int32.add_zero]; done) | (simp only [nI_add, pk_mul, nI_1, Int32.add_zero]; exact congrArg nI (by omega))) (by omega) (by omega) ?_
      rw [hp k x hx]
      refine go_aald hC x ha1 rfl dX7_steps_31 (by first | rfl | (simp only [nI_add, pk_mul, nI_1, Int32.add_zero]; done) | (simp only [nI_add, pk_mul, nI_1, Int32.add_zero]; exact congrArg nI (by omega))) (by omega) (by omega) hfx ?_
      refine go_astore hC dX7_steps_32 (by decide) ?_
      refine go_aload_n hC dX7_steps_34 rfl ?_
      refine go_aload hC dX7_steps_35 rfl ?_
      refine go_getN hC kX4 zc 2 q1234 dX7_steps_37 rfl (by decide) (Or.inl rfl) ?_
      refine go_callV0 hC (c_X2_way hR1 hw1 z.2.2.2.2 hd12) (lw_V q1476 q1095 q1096 q73 q1097) hR1.1 rfl dX7_steps_40 1 rfl (by decide +kernel) rfl ⟨Nat.le_of_ble_eq_true rfl, Nat.le_of_ble_eq_true rfl⟩ (Nat.le_of_ble_eq_true rfl) ⟨rfl, rfl⟩ ?_
      rintro _ _ ⟨rfl, rfl⟩
      refine go_istore hC dX7_steps_43 (by decide) ?_
      refine go_iload hC dX7_steps_45 rfl ?_
      refine go_bipush hC (nI 99) dX7_steps_47 (by decide) ?_
      refine go_icmp_eq hC 56 dX7_steps_49 (by decide) (fun c49 => ?_) (fun c49 => ?_)
      · refine go_iconst hC (0) dX7_steps_56 (by decide) ?_
        exact tail false _ (decide_eq_false (fun w => w c49)).symm rfl
      · refine go_iconst hC (1) dX7_steps_52 (by decide) ?_
        refine go_goto hC 57 dX7_steps_53 (by decide) ?_
        exact tail true _ (decide_eq_true c49).symm rfl
  refine go_iconst hC (0) dX7_steps_0 (by decide) ?_
  refine go_istore hC dX7_steps_1 (by decide) ?_
  refine go_iconst hC (1) dX7_steps_3 (by decide) ?_
  refine go_istore hC dX7_steps_4 (by decide) ?_
  refine go_iconst hC (0) dX7_steps_6 (by decide) ?_
  refine go_istore hC dX7_steps_7 (by decide) ?_
  exact loop 0 h L (sW t) 0 _ _ (Nat.zero_le _) hw.w hV.1 hV.2.2.2.2.1 fr.rf (by rw [List.drop_zero])
end BS2
