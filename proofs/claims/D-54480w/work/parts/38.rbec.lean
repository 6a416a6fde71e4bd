/-! THE RING: it becomes like another one -/
set_option maxRecDepth 100000
section BC
variable {G : GT} {h : PH} {r r2 d : Nat} {t t2 : St} {B B2 : Nat → Nat} {q L S q2 L2 S2 : Nat → Int32} {Z Z2 : List Zt} {c : Nat}
theorem zM_nil : ∀ n, n < 64 → zM [] n = none := fun n _ => rfl
theorem RO.jm {w nb : Nat} {J J' : Nat → Bool} (hR : RO G h r B w nb q L S J) (JJ : Nat → Int32) (hJ : ∀ o, o < 12 → JJ o = bI (J' o)) : RO G (hu h (B 3) (r, 4) (za G 12 JJ)) r B w nb q L S J' := by
  obtain ⟨h1, h2, ⟨JJ2, h3, h4⟩, h5⟩ := hR
  exact ⟨hu_k h1 h3 (ow_ne (by decide)), hu_k h2 h3 (ow_ne (by decide)), ⟨JJ, hu_eq, hJ⟩, hu_k h5 h3 (ow_ne (by decide))⟩
theorem RO.st {w nb : Nat} {J : Nat → Bool} (hR : RO G h r B w nb q L S J) (S' : Nat → Int32) : RO G (hu h (B 4) (r, 5) (ia G 3 S')) r B w nb q L S' J := by
  obtain ⟨h1, h2, ⟨JJ, h3, h4⟩, h5⟩ := hR
  exact ⟨hu_k h1 h5 (ow_ne (by decide)), hu_k h2 h5 (ow_ne (by decide)), ⟨JJ, hu_k h3 h5 (ow_ne (by decide)), h4⟩, hu_eq⟩
abbrev Pr (r : Nat) : Ow → Prop := fun o => o.1 = r
theorem pl_pr {r : Nat} (o : Ow) (w : Pl r o) : Pr r o := by
  rcases w with w | w | w
  · rw [w]
  · rw [w]
  · exact w.1
theorem RV.hM (hV : RV G h r d t B q L S Z) : ∃ fs, h (B 1) = some ((r, 2), ob 8 fs) := by
  obtain ⟨mc, lf, w | ⟨k, T, f, bk, w⟩⟩ := hV.2.2.2.2.1.2.1
  · exact ⟨_, w.1⟩
  · exact ⟨_, w.2.1⟩
theorem HM.ob {mp sz : Nat} {M : Nat → Option Nat} (hM : HM G h r d mp sz M) : ∃ fs, h mp = some ((r, 2), ob 8 fs) := by
  obtain ⟨mc, lf, w | ⟨k, T, f, bk, w⟩⟩ := hM
  · exact ⟨_, w.1⟩
  · exact ⟨_, w.2.1⟩
theorem AL.ob {o1 o2 : Ow} {l : Nat} {Ls : List Nat} (hA : AL G h o1 o2 l Ls) : ∃ fs, h l = some (o1, ob 7 fs) := by
  obtain ⟨mc, D, w, -⟩ := hA
  exact ⟨_, w⟩
theorem c_X2_become (hV : RV G h r d t B q L S Z) (hV2 : RV G h r2 d t2 B2 q2 L2 S2 Z2) (hne : r ≠ r2) (hdr : d ≠ r) (hw : WF c t2) (hc : c ≤ 64) : CT G yX2_become cX2_become 4 none (rmL 9 160 5240) [.ref r, .ref r2] h (fun v h' => v = none ∧ RG G h' r d t2 ∧ fr (Pr r) h h') noX := by
  obtain ⟨hR, hq, hL, hS, hI, hZ⟩ := id hV
  have hZ2 := hV2.2.2.2.2.2
  have hZl : Z2.length = (sI t2).length := by rw [← hZ2, List.length_map]
  have hn40 := hw.n
  refine CT_of [some (.ref r), some (.ref r2), none, none] (by decide +kernel) rfl (Nat.le_of_ble_eq_true rfl) (fun X hC hF hE => ?_)
  show Go X G h 160 5240 0 _ _
  have p2 : ∀ o : Ow, o.1 = r2 → ¬ Pr r o := fun o h1 h2 => hne (h2.symm.trans h1)
  have p9 : ¬ Pr r (d, 9) := fun e => hdr e
  -- the end
  have fin : ∀ (h1 : PH) (k n : Nat) (Z1 : List Zt) (z2 z3 : Option Value), RO G h1 r B (sW t) (sC t) q L S (sJ t) → LI G h1 r d B Z1 → Z1.map (fun z => z.2.2) = sI t2 → RV G h1 r2 d t2 B2 q2 L2 S2 Z2 → fr (Pr r) h h1 → Go X G h1 k n 68 [some (.ref r), some (.ref r2), z2, z3] [] := by
    intro h1 k n Z1 z2 z3 hR1 hI1 hZ1 hW1 hf1
    obtain ⟨JJ2, j1, j2⟩ := hW1.1.2.2.1
    obtain ⟨JJ, j3, j4⟩ := hR1.2.2.1
    have c12 : ∀ (a b : Nat → Int32) o, o < 12 → va_cpy a b 0 0 12 o = a o := fun a b o ho => by
      rw [pk_cpy_in (Nat.zero_le _) (by omega)]; exact congrArg a (by omega)
    have hR2 := hR1.ld (va_cpy L2 L 0 0 12)
    have hI2 := hI1.up (e' := ia G 12 (va_cpy L2 L 0 0 12)) hR1.2.1 (by omega)
    have hf2 : fr (Pr r) h (hu h1 (B 2) (r, 3) (ia G 12 (va_cpy L2 L 0 0 12))) := hf1.up hR1.2.1 rfl
    have hW2 : RV G (hu h1 (B 2) (r, 3) (ia G 12 (va_cpy L2 L 0 0 12))) r2 d t2 B2 q2 L2 S2 Z2 := hW1.fr (P := Pr r) (fr.rf.up hR1.2.1 rfl) p9 p2
    refine go_aload_n hC dX2_become_68 rfl ?_
    refine go_get hC kX2 hW1.1.1 2 q187 dX2_become_69 rfl (by decide) (Or.inl rfl) ?_
    refine go_iconst hC (0) dX2_become_72 (by decide) ?_
    refine go_aload_n hC dX2_become_73 rfl ?_
    refine go_get hC kX2 hR1.1 2 q187 dX2_become_74 rfl (by decide) (Or.inl rfl) ?_
    refine go_iconst hC (0) dX2_become_77 (by decide) ?_
    refine go_bipush hC (nI 12) dX2_become_78 (by decide) ?_
    refine go_copyi hC 0 0 12 q1416 q357 q356 q94 rfl rfl hW1.1.2.1 hR1.2.1 rfl rfl rfl (by omega) (by omega) (by omega) (by omega) (fun _ _ => rfl) ⟨Nat.le_of_ble_eq_true rfl, Nat.le_of_ble_eq_true rfl⟩ (Nat.le_of_ble_eq_true rfl) dX2_become_80 ?_
    generalize hu h1 (B 2) (r, 3) (ia G 12 (va_cpy L2 L 0 0 12)) = h2 at hR2 hI2 hf2 hW2
    obtain ⟨JJ2, j1, j2⟩ := hW2.1.2.2.1
    obtain ⟨JJ, j3, j4⟩ := hR2.2.2.1
    have hR3 := hR2.jm (J' := sJ t2) (va_cpy JJ2 JJ 0 0 12) (fun o ho => by rw [c12 _ _ o ho]; exact j2 o ho)
    have hI3 := hI2.up (e' := za G 12 (va_cpy JJ2 JJ 0 0 12)) j3 (by omega)
    have hf3 : fr (Pr r) h (hu h2 (B 3) (r, 4) (za G 12 (va_cpy JJ2 JJ 0 0 12))) := hf2.up j3 rfl
    have hW3 : RV G (hu h2 (B 3) (r, 4) (za G 12 (va_cpy JJ2 JJ 0 0 12))) r2 d t2 B2 q2 L2 S2 Z2 := hW2.fr (P := Pr r) (fr.rf.up j3 rfl) p9 p2
    refine go_aload_n hC dX2_become_83 rfl ?_
    refine go_get hC kX2 hW2.1.1 3 q190 dX2_become_84 rfl (by decide) (Or.inl rfl) ?_
    refine go_iconst hC (0) dX2_become_87 (by decide) ?_
    refine go_aload_n hC dX2_become_88 rfl ?_
    refine go_get hC kX2 hR2.1 3 q190 dX2_become_89 rfl (by decide) (Or.inl rfl) ?_
    refine go_iconst hC (0) dX2_become_92 (by decide) ?_
    refine go_bipush hC (nI 12) dX2_become_93 (by decide) ?_
    refine go_copyi hC 0 0 12 q1416 q357 q356 q94 rfl rfl j1 j3 rfl rfl rfl (by omega) (by omega) (by omega) (by omega) (fun i hi => by rw [Nat.zero_add, j2 i hi]; cases sJ t2 i <;> rfl) ⟨Nat.le_of_ble_eq_true rfl, Nat.le_of_ble_eq_true rfl⟩ (Nat.le_of_ble_eq_true rfl) dX2_become_95 ?_
    generalize hu h2 (B 3) (r, 4) (za G 12 (va_cpy JJ2 JJ 0 0 12)) = h3 at hR3 hI3 hf3 hW3
    have hR4 := hR3.st (va_cpy S2 S 0 0 3)
    have hI4 := hI3.up (e' := ia G 3 (va_cpy S2 S 0 0 3)) hR3.2.2.2 (by omega)
    have hf4 : fr (Pr r) h (hu h3 (B 4) (r, 5) (ia G 3 (va_cpy S2 S 0 0 3))) := hf3.up hR3.2.2.2 rfl
    have hW4 : RV G (hu h3 (B 4) (r, 5) (ia G 3 (va_cpy S2 S 0 0 3))) r2 d t2 B2 q2 L2 S2 Z2 := hW3.fr (P := Pr r) (fr.rf.up hR3.2.2.2 rfl) p9 p2
    refine go_aload_n hC dX2_become_98 rfl ?_
    refine go_get hC kX2 hW3.1.1 4 q193 dX2_become_99 rfl (by decide) (Or.inl rfl) ?_
    refine go_iconst hC (0) dX2_become_102 (by decide) ?_
    refine go_aload_n hC dX2_become_103 rfl ?_
    refine go_get hC kX2 hR3.1 4 q193 dX2_become_104 rfl (by decide) (Or.inl rfl) ?_
    refine go_iconst hC (0) dX2_become_107 (by decide) ?_
    refine go_iconst hC (nI 3) dX2_become_108 (by decide) ?_
    refine go_copyi hC 0 0 3 q1416 q357 q356 q94 rfl rfl hW3.1.2.2.2 hR3.2.2.2 rfl rfl rfl (by omega) (by omega) (by omega) (by omega) (fun _ _ => rfl) ⟨Nat.le_of_ble_eq_true rfl, Nat.le_of_ble_eq_true rfl⟩ (Nat.le_of_ble_eq_true rfl) dX2_become_109 ?_
    generalize hu h3 (B 4) (r, 5) (ia G 3 (va_cpy S2 S 0 0 3)) = h4 at hR4 hI4 hf4 hW4
    refine go_aload_n hC dX2_become_112 rfl ?_
    refine go_aload_n hC dX2_become_113 rfl ?_
    refine go_callV0 hC (c_X2_turnAs hR4 hW4.1 hne) (lw_V q1417 q1418 q1419 q73 q1420) hR4.1 rfl dX2_become_114 1 rfl (by decide +kernel) rfl ⟨Nat.le_of_ble_eq_true rfl, Nat.le_of_ble_eq_true rfl⟩ (Nat.le_of_ble_eq_true rfl) ⟨rfl, rfl⟩ ?_
    rintro _ _ ⟨rfl, rfl⟩
    refine go_vret hC hF dX2_become_117 rfl ?_
    obtain ⟨w1, w2, w3, w4, w5, w6⟩ := hW4
    refine ⟨rfl, ⟨B, q2, _, _, Z1, hR4.ob, w2, fun o ho => by rw [c12 _ _ o ho]; exact w3 o ho, fun k hk => ?_, hI4.up hR4.1 (by omega), hZ1⟩, hf4.up hR4.1 rfl⟩
    rw [pk_cpy_in (Nat.zero_le _) (by omega), Nat.zero_add, Nat.sub_zero]
    exact w4 k hk
  have loop : ∀ (i : Nat) (h1 : PH) (Z1 : List Zt) (z3 : Option Value), i ≤ Z2.length → RO G h1 r B (sW t) (sC t) q L S (sJ t) → LI G h1 r d B Z1 → Z1.map (fun z => z.2.2) = (sI t2).take i → RV G h1 r2 d t2 B2 q2 L2 S2 Z2 → fr (Pr r) h h1 → Go X G h1 (160 - 4 * i) (5240 - 131 * i) 16 [some (.ref r), some (.ref r2), some (.int (nI i)), z3] [] := by
    refine lpC (fun i _ _ => Z2.length - i) (fun i h1 Z1 ih z3 hi hR1 hI1 hZ1 hW1 hf1 => ?_)
    have hA2 := hW1.2.2.2.2.1.1
    obtain ⟨fl, hfl⟩ := hA2.ob
    refine go_iload_n hC dX2_become_16 rfl ?_
    refine go_aload_n hC dX2_become_17 rfl ?_
    refine go_get hC kX2 hW1.1.1 0 q184 dX2_become_18 rfl (by decide) (Or.inl rfl) ?_
    refine go_callV0 hC (c_J2_size hA2) (lw_V q1218 q1137 q1138 q76 q1139) hfl rfl dX2_become_21 0 rfl (by decide +kernel) rfl ⟨Nat.le_of_ble_eq_true rfl, Nat.le_of_ble_eq_true rfl⟩ (Nat.le_of_ble_eq_true rfl) ⟨rfl, rfl⟩ ?_
    rintro _ _ ⟨rfl, rfl⟩
    rw [List.length_map]
    refine go_N_ge hC 68 dX2_become_24 (by decide) rfl rfl (by omega) (by omega) (fun c24 => ?_) (fun c24 => ?_)
    · refine fin h1 _ _ Z1 _ _ hR1 hI1 ?_ hW1 hf1
      rw [hZ1, List.take_of_length_le (by omega)]
    · obtain ⟨z, hz, -⟩ := get_of c24
      have hzm := List.mem_of_getElem? hz
      obtain ⟨z64, zc, zt⟩ := hW1.2.2.2.2.1.2.2 z hzm
      have hzi : (sI t2)[i]? = some z.2.2 := by rw [← hZ2, List.getElem?_map, hz]; rfl
      have hget : (Z2.map (fun z => z.1))[i]? = some z.1 := by rw [List.getElem?_map, hz]; rfl
      refine go_aload_n hC dX2_become_27 rfl ?_
      refine go_get hC kX2 hW1.1.1 0 q184 dX2_become_28 rfl (by decide) (Or.inl rfl) ?_
      refine go_iload_n hC dX2_become_31 rfl ?_
      refine go_callV0 hC (c_J2_get hA2 hget) (lw_V q1219 q1176 q1177 q76 q1178) hfl rfl dX2_become_32 1 rfl (by decide +kernel) rfl ⟨Nat.le_of_ble_eq_true rfl, Nat.le_of_ble_eq_true rfl⟩ (Nat.le_of_ble_eq_true rfl) ⟨rfl, rfl⟩ ?_
      rintro _ _ ⟨rfl, rfl⟩
      refine go_cast hC zc rfl q1093 rfl dX2_become_35 ?_
      refine go_astore_n hC dX2_become_38 (by decide) ?_
      refine go_aload_n hC dX2_become_39 rfl ?_
      refine go_new hC kX4 nfX4 (fun _ => iL r (zN z)) q1093 q1220 q95 dfX4 (by omega) (by omega) dX2_become_40 (fun a an ab => ?_)
      refine go_dup hC dX2_become_43 rfl ?_
      refine go_aload_n hC dX2_become_44 rfl ?_
      refine go_getN hC kX4 (hu_n an zc) 0 q1226 dX2_become_45 rfl (by decide) (Or.inl rfl) ?_
      refine go_aload_n hC dX2_become_48 rfl ?_
      refine go_getN hC kX4 (hu_n an zc) 1 q1229 dX2_become_49 rfl (by decide) (Or.inl rfl) ?_
      refine go_aload_n hC dX2_become_52 rfl ?_
      refine go_getN hC kX4 (hu_n an zc) 2 q1233 dX2_become_53 rfl (by decide) (Or.inl rfl) ?_
      refine go_callI0 hC (c_X4_init hu_eq z.2.2.2.1 (nI z.2.2.2.2)) q1223 q95 q1221 q1222 rfl dX2_become_56 3 rfl (by decide +kernel) rfl ⟨Nat.le_of_ble_eq_true rfl, Nat.le_of_ble_eq_true rfl⟩ (Nat.le_of_ble_eq_true rfl) ⟨rfl, rfl⟩ ?_
      rintro _ _ ⟨rfl, rfl⟩
      rw [hu_hu]
      have hf2 : fr P0 h1 (hu h1 a (iL r (zN z)) (ob 2 [.ref z.2.1, .int z.2.2.2.1, .int (nI z.2.2.2.2)])) := fr.rf.nw an
      have hz1 : hu h1 a (iL r (zN z)) (ob 2 [.ref z.2.1, .int z.2.2.2.1, .int (nI z.2.2.2.2)]) a = some (iL r (zN z), itc (a, z.2.1, z.2.2)) := hu_eq
      have hz2 := hf2 _ _ _ zt (fun w => w)
      have hR2 := hR1.fr hf2 (fun _ _ w => w)
      have hI2 := hI1.fr hf2 (fun w => w) (fun _ _ w => w) (fun _ _ w => w)
      have hW2 := hW1.fr hf2 (fun w => w) (fun _ _ w => w)
      generalize hu h1 a (iL r (zN z)) (ob 2 [.ref z.2.1, .int z.2.2.2.1, .int (nI z.2.2.2.2)]) = h2 at hf2 hz1 hz2 hR2 hI2 hW2
      have hZ1l : Z1.length = i := by
        have := congrArg List.length hZ1
        rw [List.length_map, List.length_take] at this
        omega
      have hnew : ∀ y ∈ Z1, zN y ≠ zN ((a, z.2.1, z.2.2) : Zt) := fun y hy e => by
        have hy2 : y.2.2 ∈ (sI t2).take i := by rw [← hZ1]; exact List.mem_map.mpr ⟨y, hy, rfl⟩
        obtain ⟨j, hj⟩ := List.getElem?_of_mem hy2
        have hjl := (List.getElem?_eq_some_iff.mp hj).1
        rw [List.length_take] at hjl
        rw [List.getElem?_take, if_pos (by omega)] at hj
        have h1 : ((sI t2).map (fun x => x.1))[j]? = some (zN y) := by rw [List.getElem?_map, hj]; rfl
        have h2 : ((sI t2).map (fun x => x.1))[i]? = some (zN z) := by rw [List.getElem?_map, hzi]; rfl
        have h3 : zN y = zN z := e
        rw [h3] at h1
        have hj9 : j < (sI t2).length := (List.getElem?_eq_some_iff.mp hj).1
        have hjj : j = i := (List.getElem?_inj (by rw [List.length_map]; exact hj9) hw.2.2.2.2.1).mp (h1.trans h2.symm)
        omega
      refine go_callV hC (c_X2_add hR2 hI2 (a, z.2.1, z.2.2) z64 hz1 hz2 hnew (by omega)) (lw_V q1243 q1245 qs18 q73 q1246) hR2.1 rfl dX2_become_59 1 rfl (by decide +kernel) rfl ⟨Nat.le_of_ble_eq_true rfl, Nat.le_of_ble_eq_true rfl⟩ (Nat.le_of_ble_eq_true rfl) (show 3 ≤ 160 - 4 * i - 1 by omega) (show 128 ≤ 5240 - 131 * i - 3 by omega) ?_
      rintro _ h3 ⟨rfl, hI3, hf3⟩
      refine go_iinc hC (v := nI (i + 1)) dX2_become_62 rfl (nI_1 _) (by decide) ?_
      refine go_goto hC 16 dX2_become_65 (by decide) ?_
      have hf3' : fr (Pr r) h2 h3 := hf3.mono pl_pr
      refine go_le (k' := 160 - 4 * (i + 1)) (n' := 5240 - 131 * (i + 1)) (show 160 - 4 * (i + 1) ≤ 160 - 4 * i - 1 - 3 by omega) (show 5240 - 131 * (i + 1) ≤ 5240 - 131 * i - 3 - 128 by omega) ?_
      refine ih (i + 1) h3 (Z1 ++ [(a, z.2.1, z.2.2)]) (by omega) _ (by omega) (hR2.fr hf3 (fun j hj => pl_i r j (by omega))) hI3 ?_ (hW2.fr hf3' p9 p2) ((hf1.tr (fr0 hf2)).tr hf3')
      rw [List.map_append, hZ1, List.take_succ, hzi]
      rfl
  obtain ⟨fl, hfl⟩ := hI.1.ob
  refine go_aload_n hC dX2_become_0 rfl ?_
  refine go_get hC kX2 hR.1 0 q184 dX2_become_1 rfl (by decide) (Or.inl rfl) ?_
  refine go_callV hC (c_J2_clear hI.1 (ow_ne (by decide))) (lw_V q1210 q1211 q1212 q76 q1213) hfl rfl dX2_become_4 0 rfl (by decide +kernel) rfl ⟨Nat.le_of_ble_eq_true rfl, Nat.le_of_ble_eq_true rfl⟩ (Nat.le_of_ble_eq_true rfl) (Nat.zero_le _) (Nat.zero_le _) ?_
  rintro _ h1 ⟨rfl, hA1, hf1⟩
  have nP : ∀ i, i = 0 ∨ i = 2 ∨ i = 8 ∨ 3 ≤ i ∧ i ≤ 5 ∨ 16 ≤ i → ¬ fo1 (r, 1) (r, 7) (r, i) := fun i hi e => by
    rcases e with e | e
    · have := congrArg Prod.snd e; dsimp at this; omega
    · have := congrArg Prod.snd e; dsimp at this; omega
  have n9 : ¬ fo1 (r, 1) (r, 7) (d, 9) := fun e => by
    rcases e with e | e
    · have := congrArg Prod.snd e; dsimp at this; omega
    · have := congrArg Prod.snd e; dsimp at this; omega
  have nPm : ∀ o, Pm r o → ¬ fo1 (r, 1) (r, 7) o := fun o ho e => by
    obtain ⟨h1, h2⟩ := ho
    rcases e with e | e <;> rw [e] at h2 <;> dsimp at h2 <;> omega
  have hR1 := hR.fr hf1 (fun i hi => nP i (by omega))
  have hM1 := hI.2.1.fr hf1 n9 nPm
  obtain ⟨fm, hfm⟩ := hM1.ob
  have hz0 : Z.length = 0 → ∀ n, n < 64 → zM Z n = none := fun e n hn => by
    rw [List.length_eq_zero_iff.mp e]; rfl
  refine go_aload_n hC dX2_become_7 rfl ?_
  refine go_get hC kX2 hR1.1 1 q186 dX2_become_8 rfl (by decide) (Or.inl rfl) ?_
  refine go_callV hC (c_J4_clear hM1 hz0 zM_nil) (lw_V q1214 q1215 q1216 q78 q1217) hfm rfl dX2_become_11 0 rfl (by decide +kernel) rfl ⟨Nat.le_of_ble_eq_true rfl, Nat.le_of_ble_eq_true rfl⟩ (Nat.le_of_ble_eq_true rfl) (Nat.zero_le _) (Nat.zero_le _) ?_
  rintro _ h2 ⟨rfl, hM2, hf2⟩
  refine go_iconst hC (0) dX2_become_14 (by decide) ?_
  refine go_istore_n hC dX2_become_15 (by decide) ?_
  have hfa : fr (Pr r) h h1 := hf1.mono (fun o w => by rcases w with w | w <;> rw [w])
  have hfb : fr (Pr r) h1 h2 := hf2.mono (fun o w => w.1)
  have mP : ∀ i, i = 0 ∨ i = 1 ∨ i = 7 ∨ 3 ≤ i ∧ i ≤ 5 ∨ 16 ≤ i ∧ i % 2 = 0 → ¬ Pm r (r, i) := fun i hi e => by
    have := e.2; dsimp at this; omega
  exact loop 0 h2 [] _ (Nat.zero_le _) (hR1.fr hf2 (fun i hi => mP i (by omega))) ⟨hA1.fr hf2 (mP _ (by omega)) (mP _ (by omega)), hM2, fun y hy => by cases hy⟩ rfl ((hV2.fr hfa p9 p2).fr hfb p9 p2) (hfa.tr hfb)
end BC
