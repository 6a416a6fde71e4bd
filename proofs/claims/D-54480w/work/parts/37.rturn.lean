/-! THE RING: it turns, an item is put in -/
set_option maxRecDepth 100000
theorem ld_app (a b : List It) (o : Nat) : ld (a ++ b) o = ld a o + ld b o := by
  have key : ∀ (b : List It) (s : Int32), b.foldl (ldf o) s = s + b.foldl (ldf o) 0 := by
    intro b
    induction b with
    | nil => intro s; exact (Int32.add_zero s).symm
    | cons x b ih =>
      intro s
      rw [List.foldl_cons, List.foldl_cons, ih, ih (ldf o 0 x)]
      unfold ldf
      grind
  unfold ld
  rw [List.foldl_append, key]
theorem ld_one (x : It) (o : Nat) : ld [x] o = if x.2.2 = o then x.2.1 else 0 := by
  unfold ld ldf
  rw [List.foldl_cons, List.foldl_nil, Int32.zero_add]
/-- what a way that isn't refused can be -/
theorem way_cases (I : Nat → Int32) (lim : Int32) (w d : Nat) (h : wayP I lim w d ≠ 99) : (plc d w = 0 ∧ wayP I lim w d = 0) ∨ (0 < plc d w ∧ (wayP I lim w d = nI (plc d w) ∨ wayP I lim w d = -(nI (12 - plc d w)))) := by
  unfold wayP at h ⊢
  by_cases p0 : plc d w = 0
  · rw [if_pos p0]; exact Or.inl ⟨p0, rfl⟩
  · rw [if_neg p0] at h ⊢
    split at h
    · exact absurd rfl h
    · rename_i h2
      rw [if_neg h2]
      refine Or.inr ⟨by omega, ?_⟩
      split
      · exact Or.inl rfl
      · exact Or.inr rfl
abbrev mx0 (x : Int32) : Int32 := if 0 < x then x else 0
theorem turn_num (p : Nat) (hp : p < 12) (v : Int32) (h : (p = 0 ∧ v = 0) ∨ (0 < p ∧ (v = nI p ∨ v = -(nI (12 - p))))) : mx0 v + mx0 (-v) = absI v ∧ mx0 (-v) = (if 0 ≤ v then 0 else -v) ∧ ((v = 0 ∨ (decide (p ≤ 6) = decide (0 < v))) ↔ (if 6 < v then (1 : Int32) else if -5 ≤ v then 0 else 1) = 0) ∧ ((if 6 < v then (1 : Int32) else if -5 ≤ v then 0 else 1) = 0 ∨ (if 6 < v then (1 : Int32) else if -5 ≤ v then 0 else 1) = 1) := by
  rcases (show p = 0 ∨ p = 1 ∨ p = 2 ∨ p = 3 ∨ p = 4 ∨ p = 5 ∨ p = 6 ∨ p = 7 ∨ p = 8 ∨ p = 9 ∨ p = 10 ∨ p = 11 by omega) with e | e | e | e | e | e | e | e | e | e | e | e <;> subst e <;> rcases h with ⟨h1, h2⟩ | ⟨h1, h2 | h2⟩ <;> first | (exact absurd h1 (by decide)) | (subst h2; decide)
theorem fr.nw2 {P : Ow → Prop} {h h1 : PH} {a : Nat} {o2 : Ow} {e' : va_E} (z : fr P h h1) (ha : h a = none) : fr P h (hu h1 a o2 e') := by
  intro q o3 e3 hq hn
  rw [hu_ne (show q ≠ a from fun w => by rw [w, ha] at hq; cases hq)]
  exact z q o3 e3 hq hn
section RT
variable {G : GT} {h : PH} {r d : Nat} {t : St} {B : Nat → Nat} {q L S : Nat → Int32} {Z : List Zt} {c : Nat}
abbrev rfs (B : Nat → Nat) (w nb : Nat) (q : Nat → Int32) : List Value := [.ref (B 0), .ref (B 1), .ref (B 2), .ref (B 3), .ref (B 4), .int (nI w), .int (nI nb), .int (q 0), .int (q 1), .int (q 2), .int (q 3)]
/-- the object's numbers change -/
theorem RO.ob {w nb w' nb' : Nat} {q' : Nat → Int32} {J : Nat → Bool} (hR : RO G h r B w nb q L S J) : RO G (hu h r (r, 0) (ob 1 (rfs B w' nb' q'))) r B w' nb' q' L S J := by
  obtain ⟨h1, h2, ⟨JJ, h3, h4⟩, h5⟩ := hR
  exact ⟨hu_eq, hu_k h2 h1 (ow_ne (by decide)), ⟨JJ, hu_k h3 h1 (ow_ne (by decide)), h4⟩, hu_k h5 h1 (ow_ne (by decide))⟩
theorem RO.ld {w nb : Nat} {J : Nat → Bool} (hR : RO G h r B w nb q L S J) (L' : Nat → Int32) : RO G (hu h (B 2) (r, 3) (ia G 12 L')) r B w nb q L' S J := by
  obtain ⟨h1, h2, ⟨JJ, h3, h4⟩, h5⟩ := hR
  exact ⟨hu_k h1 h2 (ow_ne (by decide)), hu_eq, ⟨JJ, hu_k h3 h2 (ow_ne (by decide)), h4⟩, hu_k h5 h2 (ow_ne (by decide))⟩
theorem pl_i (r i : Nat) (hi : i = 0 ∨ 3 ≤ i ∧ i ≤ 5 ∨ 16 ≤ i ∧ i % 2 = 0) : ¬ Pl r (r, i) := fun e => by
  rcases e with e | e | e
  · have := congrArg Prod.snd e; dsimp at this; omega
  · have := congrArg Prod.snd e; dsimp at this; omega
  · have := e.2; dsimp at this; omega
theorem LI.up {a : Nat} {i : Nat} {e e' : va_E} (hL : LI G h r d B Z) (ha : h a = some ((r, i), e)) (hi : i = 0 ∨ 3 ≤ i ∧ i ≤ 5) : LI G (hu h a (r, i) e') r d B Z := by
  refine hL.fr (P := fun o => o = (r, i)) (fr.rf.up ha rfl) (fun w => ?_) (fun o ho w => ?_) (fun z _ w => ?_)
  · have := congrArg Prod.snd w; dsimp at this; omega
  · rw [w] at ho; exact pl_i r i (by omega) ho
  · have := congrArg Prod.snd w; dsimp at this; omega
theorem c_X2_turn (hV : RV G h r d t B q L S Z) (hw : WF c t) (x : Nat) (hx : x < 12) (hway : way t x ≠ 99) : CT G yX2_turn cX2_turn 4 (some .int) (rmL 4 0 0) [.ref r, .int (nI x)] h (fun v h' => v = some (.int (way t x)) ∧ (∃ q', RV G h' r d (trn t x) B q' L S Z) ∧ fr (fun o => o = (r, 0)) h h') noX := by
  obtain ⟨hR, hq, hL, hS, hI, hZ⟩ := id hV
  have hp := plc_lt x (sW t)
  have hwc := way_cases (imb (sI t)) (sN t 0) (sW t) x hway
  obtain ⟨n1, n2, n3, n4⟩ := turn_num (plc x (sW t)) hp (way t x) hwc
  refine CT_of [some (.ref r), some (.int (nI x)), none, none] (by decide +kernel) rfl (Nat.le_of_ble_eq_true rfl) (fun X hC hF hE => ?_)
  have fin : ∀ (z : Int32), z = (if 6 < way t x then (1 : Int32) else if -5 ≤ way t x then 0 else 1) → Go X G h 0 0 53 [some (.ref r), some (.int (nI x)), some (.int (way t x)), some (.int (nI (plc x (sW t))))] [.int z, .int (q 2), .ref r] := by
    intro z hz
    refine go_iadd hC dX2_turn_53 ?_
    refine go_put hC kX2 hR.1 9 q203 dX2_turn_54 (by decide) (Nat.le_of_ble_eq_true rfl) (Or.inl rfl) rfl rfl rfl ?_
    refine go_aload_n hC dX2_turn_57 rfl ?_
    refine go_dup hC dX2_turn_58 rfl ?_
    refine go_get hC kX2 hu_eq 7 q200 dX2_turn_59 rfl (by decide) (Or.inl rfl) ?_
    refine go_iconst hC (0) dX2_turn_62 (by decide) ?_
    refine go_iload_n hC dX2_turn_63 rfl ?_
    refine go_max hC q1149 q335 q90 q336 ⟨Nat.le_of_ble_eq_true rfl, Nat.le_of_ble_eq_true rfl⟩ (Nat.le_of_ble_eq_true rfl) dX2_turn_64 ?_
    refine go_iadd hC dX2_turn_67 ?_
    refine go_put hC kX2 hu_eq 7 q200 dX2_turn_68 (by decide) (Nat.le_of_ble_eq_true rfl) (Or.inl rfl) rfl rfl rfl ?_
    rw [hu_hu]
    refine go_aload_n hC dX2_turn_71 rfl ?_
    refine go_dup hC dX2_turn_72 rfl ?_
    refine go_get hC kX2 hu_eq 8 q201 dX2_turn_73 rfl (by decide) (Or.inl rfl) ?_
    refine go_iconst hC (0) dX2_turn_76 (by decide) ?_
    refine go_iload_n hC dX2_turn_77 rfl ?_
    refine go_ineg hC dX2_turn_78 ?_
    refine go_max hC q1149 q335 q90 q336 ⟨Nat.le_of_ble_eq_true rfl, Nat.le_of_ble_eq_true rfl⟩ (Nat.le_of_ble_eq_true rfl) dX2_turn_79 ?_
    refine go_iadd hC dX2_turn_82 ?_
    refine go_put hC kX2 hu_eq 8 q201 dX2_turn_83 (by decide) (Nat.le_of_ble_eq_true rfl) (Or.inl rfl) rfl rfl rfl ?_
    rw [hu_hu]
    refine go_aload_n hC dX2_turn_86 rfl ?_
    refine go_iload_n hC dX2_turn_87 rfl ?_
    refine go_put hC kX2 hu_eq 5 q195 dX2_turn_88 (by decide) (Nat.le_of_ble_eq_true rfl) (Or.inl rfl) rfl rfl rfl ?_
    rw [hu_hu]
    refine go_iload_n hC dX2_turn_91 rfl ?_
    refine go_iret hC hF dX2_turn_92 rfl rfl ?_
    obtain ⟨q1, q2, q3, q4⟩ := hq
    refine ⟨rfl, ⟨fun k => if k = 0 then q 0 + mx0 (way t x) else if k = 1 then q 1 + mx0 (-(way t x)) else if k = 2 then q 2 + z else q 3, (hR.ob (w' := x) (nb' := sC t) (q' := fun k => if k = 0 then q 0 + mx0 (way t x) else if k = 1 then q 1 + mx0 (-(way t x)) else if k = 2 then q 2 + z else q 3)), ⟨?_, ?_, ?_, q4⟩, hL, (fun k hk => ?_), hI.up hR.1 (by omega), hZ⟩, fr.rf.up hR.1 rfl⟩
    · show q 0 + mx0 (way t x) + (q 1 + mx0 (-(way t x))) = sN t 4 + absI (way t x)
      rw [← n1, ← q1]
      grind
    · show q 1 + mx0 (-(way t x)) = sN t 5 + (if 0 ≤ way t x then 0 else -(way t x))
      rw [n2, q2]
    · show q 2 + z = sN t 6 + _
      rw [hz, q3]
    · show S k = if k = 4 then _ else if k = 5 then _ else if k = 6 then _ else sN t k
      rw [if_neg (by omega), if_neg (by omega), if_neg (by omega)]; exact hS k hk
  have f0 : (way t x = 0 ∨ (decide (plc x (sW t) ≤ 6) = decide (0 < way t x))) → Go X G h 0 0 52 [some (.ref r), some (.int (nI x)), some (.int (way t x)), some (.int (nI (plc x (sW t))))] [.int (q 2), .ref r] := by
    intro hz
    refine go_iconst hC (0) dX2_turn_52 (by decide) ?_
    exact fin 0 (n3.mp hz).symm
  have f1 : ¬ (way t x = 0 ∨ (decide (plc x (sW t) ≤ 6) = decide (0 < way t x))) → Go X G h 0 0 48 [some (.ref r), some (.int (nI x)), some (.int (way t x)), some (.int (nI (plc x (sW t))))] [.int (q 2), .ref r] := by
    intro hz
    refine go_iconst hC (1) dX2_turn_48 (by decide) ?_
    refine go_goto hC 53 dX2_turn_49 (by decide) ?_
    exact fin 1 (n4.resolve_left (fun y => hz (n3.mpr y))).symm
  have f45 : ∀ (a b : Bool), a = decide (plc x (sW t) ≤ 6) → b = decide (0 < way t x) → ¬ way t x = 0 → Go X G h 0 0 45 [some (.ref r), some (.int (nI x)), some (.int (way t x)), some (.int (nI (plc x (sW t))))] [.int (bI b), .int (bI a), .int (q 2), .ref r] := by
    intro a b ha hb h0
    cases a <;> cases b
    · refine go_icmp_eq hC 52 dX2_turn_45 (by decide) (fun _ => ?_) (fun z => absurd rfl z)
      exact f0 (Or.inr (by rw [← ha, ← hb]))
    · refine go_icmp_eq hC 52 dX2_turn_45 (by decide) (fun z => absurd z (show ¬ bI false = bI true by decide)) (fun _ => ?_)
      exact f1 (fun y => y.elim h0 (fun y => absurd (ha.trans (y.trans hb.symm)) (by decide)))
    · refine go_icmp_eq hC 52 dX2_turn_45 (by decide) (fun z => absurd z (show ¬ bI true = bI false by decide)) (fun _ => ?_)
      exact f1 (fun y => y.elim h0 (fun y => absurd (ha.trans (y.trans hb.symm)) (by decide)))
    · refine go_icmp_eq hC 52 dX2_turn_45 (by decide) (fun _ => ?_) (fun z => absurd rfl z)
      exact f0 (Or.inr (by rw [← ha, ← hb]))
  have f36 : ∀ (a : Bool), a = decide (plc x (sW t) ≤ 6) → ¬ way t x = 0 → Go X G h 0 0 36 [some (.ref r), some (.int (nI x)), some (.int (way t x)), some (.int (nI (plc x (sW t))))] [.int (bI a), .int (q 2), .ref r] := by
    intro a ha h0
    refine go_iload_n hC dX2_turn_36 rfl ?_
    refine go_if_le hC 44 dX2_turn_37 (by decide) (fun c37 => ?_) (fun c37 => ?_)
    · refine go_iconst hC (0) dX2_turn_44 (by decide) ?_
      exact f45 a false ha (decide_eq_false (i32_nlt.mpr c37)).symm h0
    · refine go_iconst hC (1) dX2_turn_40 (by decide) ?_
      refine go_goto hC 45 dX2_turn_41 (by decide) ?_
      exact f45 a true ha (decide_eq_true (i32_nle.mp c37)).symm h0
  refine go_aload_n hC dX2_turn_0 rfl ?_
  refine go_iload_n hC dX2_turn_1 rfl ?_
  refine go_callV0 hC (c_X2_way hR hw.w x hx) (lw_V q1094 q1095 q1096 q73 q1097) hR.1 rfl dX2_turn_2 1 rfl (by decide +kernel) rfl ⟨Nat.le_of_ble_eq_true rfl, Nat.le_of_ble_eq_true rfl⟩ (Nat.le_of_ble_eq_true rfl) ⟨rfl, rfl⟩ ?_
  rintro _ _ ⟨rfl, rfl⟩
  rw [hV.wayE hw]
  refine go_istore_n hC dX2_turn_5 (by decide) ?_
  refine go_aload_n hC dX2_turn_6 rfl ?_
  refine go_iload_n hC dX2_turn_7 rfl ?_
  refine go_aload_n hC dX2_turn_8 rfl ?_
  refine go_get hC kX2 hR.1 5 q195 dX2_turn_9 rfl (by decide) (Or.inl rfl) ?_
  refine go_callV0 hC (c_X2_place hR x (sW t) hx hw.w) (lw_V q1098 q1099 q1100 q73 q1101) hR.1 rfl dX2_turn_12 2 rfl (by decide +kernel) rfl ⟨Nat.le_of_ble_eq_true rfl, Nat.le_of_ble_eq_true rfl⟩ (Nat.le_of_ble_eq_true rfl) ⟨rfl, rfl⟩ ?_
  rintro _ _ ⟨rfl, rfl⟩
  refine go_istore_n hC dX2_turn_15 (by decide) ?_
  refine go_aload_n hC dX2_turn_16 rfl ?_
  refine go_dup hC dX2_turn_17 rfl ?_
  refine go_get hC kX2 hR.1 9 q203 dX2_turn_18 rfl (by decide) (Or.inl rfl) ?_
  refine go_iload_n hC dX2_turn_21 rfl ?_
  refine go_if_eq hC 52 dX2_turn_22 (by decide) (fun c22 => ?_) (fun c22 => ?_)
  · exact f0 (Or.inl c22)
  · refine go_iload_n hC dX2_turn_25 rfl ?_
    refine go_bipush hC (nI 6) dX2_turn_26 (by decide) ?_
    refine go_N_gt hC 35 dX2_turn_28 (by decide) rfl rfl (by omega) (by omega) (fun c28 => ?_) (fun c28 => ?_)
    · refine go_iconst hC (0) dX2_turn_35 (by decide) ?_
      exact f36 false (decide_eq_false (by omega)).symm c22
    · refine go_iconst hC (1) dX2_turn_31 (by decide) ?_
      refine go_goto hC 36 dX2_turn_32 (by decide) ?_
      exact f36 true (decide_eq_true (by omega)).symm c22
theorem c_X2_put (hV : RV G h r d t B q L S Z) (hw : WF c t) (hc : c < 64) (hn : (sI t).length < 40) (x : Nat) (v : Int32) (hx : x < 12) : CT G yX2_put cX2_put 3 none (rmL 8 5 132) [.ref r, .int (nI x), .int v] h (fun z h' => z = none ∧ RG G h' r d (puS t x v) ∧ fr (fun o => o.1 = r) h h') noX := by
  obtain ⟨hR, hq, hL, hS, hI, hZ⟩ := id hV
  have hcc := hw.2.1
  refine CT_of [some (.ref r), some (.int (nI x)), some (.int v)] (by decide +kernel) rfl (Nat.le_of_ble_eq_true rfl) (fun X hC hF hE => ?_)
  show Go X G h 5 132 0 _ _
  refine go_aload_n hC dX2_put_0 rfl ?_
  refine go_new hC kX4 nfX4 (fun _ => iL r (sC t)) q1093 q1220 q95 dfX4 (by omega) (by omega) dX2_put_1 (fun a an ab => ?_)
  refine go_dup hC dX2_put_4 rfl ?_
  refine go_new hC kX5 nfX5 (fun _ => (d, 9)) q731 q732 q107 dfX5 (by omega) (by omega) dX2_put_5 (fun g gn gb => ?_)
  refine go_dup hC dX2_put_8 rfl ?_
  refine go_aload_n hC dX2_put_9 rfl ?_
  refine go_get hC kX2 (hu_n gn (hu_n an hR.1)) 6 q198 dX2_put_10 rfl (by decide) (Or.inl rfl) ?_
  refine go_callI0 hC (c_X5_init hu_eq (nI (sC t))) q735 q107 q733 q734 rfl dX2_put_13 1 rfl (by decide +kernel) rfl ⟨Nat.le_of_ble_eq_true rfl, Nat.le_of_ble_eq_true rfl⟩ (Nat.le_of_ble_eq_true rfl) ⟨rfl, rfl⟩ ?_
  rintro _ _ ⟨rfl, rfl⟩
  rw [hu_hu]
  have ha2 : hu (hu h a (iL r (sC t)) (ob 2 nfX4)) g (d, 9) (ob 3 [.int (nI (sC t))]) a = some (iL r (sC t), ob 2 nfX4) := hu_n gn hu_eq
  have hga : g ≠ a := fun e => by rw [e, hu_eq] at gn; cases gn
  have hf2 : fr P0 h (hu (hu h a (iL r (sC t)) (ob 2 nfX4)) g (d, 9) (ob 3 [.int (nI (sC t))])) := (fr.rf.nw an).nw gn
  refine go_iload_n hC dX2_put_16 rfl ?_
  refine go_iload_n hC dX2_put_17 rfl ?_
  refine go_callI0 hC (c_X4_init ha2 v (nI x)) q1223 q95 q1221 q1222 rfl dX2_put_18 3 rfl (by decide +kernel) rfl ⟨Nat.le_of_ble_eq_true rfl, Nat.le_of_ble_eq_true rfl⟩ (Nat.le_of_ble_eq_true rfl) ⟨rfl, rfl⟩ ?_
  rintro _ _ ⟨rfl, rfl⟩
  have hf3 : fr P0 h (hu (hu (hu h a (iL r (sC t)) (ob 2 nfX4)) g (d, 9) (ob 3 [.int (nI (sC t))])) a (iL r (sC t)) (ob 2 [.ref g, .int v, .int (nI x)])) := hf2.nw2 an
  have hz1 : hu (hu (hu h a (iL r (sC t)) (ob 2 nfX4)) g (d, 9) (ob 3 [.int (nI (sC t))])) a (iL r (sC t)) (ob 2 [.ref g, .int v, .int (nI x)]) a = some (iL r (sC t), itc (a, g, (sC t, v, x))) := hu_eq
  have hz2 : hu (hu (hu h a (iL r (sC t)) (ob 2 nfX4)) g (d, 9) (ob 3 [.int (nI (sC t))])) a (iL r (sC t)) (ob 2 [.ref g, .int v, .int (nI x)]) g = some ((d, 9), tgc (sC t)) := by rw [hu_ne hga, hu_eq]
  have hR3 := hR.fr hf3 (fun _ _ w => w)
  have hI3 := hI.fr hf3 (fun w => w) (fun _ _ w => w) (fun _ _ w => w)
  generalize hu (hu (hu h a (iL r (sC t)) (ob 2 nfX4)) g (d, 9) (ob 3 [.int (nI (sC t))])) a (iL r (sC t)) (ob 2 [.ref g, .int v, .int (nI x)]) = h3 at hf3 hz1 hz2 hR3 hI3
  have hZl : Z.length = (sI t).length := by rw [← hZ, List.length_map]
  have hnew : ∀ y ∈ Z, zN y ≠ zN ((a, g, (sC t, v, x)) : Zt) := fun y hy e => by
    have h1 : zN y < sC t := (hV.mem hw hy).1
    have h2 : zN y = sC t := e
    omega
  refine go_callV hC (c_X2_add hR3 hI3 (a, g, (sC t, v, x)) (show sC t < 64 by omega) hz1 hz2 hnew (by omega)) (lw_V q1243 q1245 qs18 q73 q1246) hR3.1 rfl dX2_put_21 1 rfl (by decide +kernel) rfl ⟨Nat.le_of_ble_eq_true rfl, Nat.le_of_ble_eq_true rfl⟩ (Nat.le_of_ble_eq_true rfl) (Nat.le_of_ble_eq_true rfl) (Nat.le_of_ble_eq_true rfl) ?_
  rintro _ h4 ⟨rfl, hI4, hf4⟩
  have hR4 := hR3.fr hf4 (fun i hi => pl_i r i (by omega))
  have hR5 := hR4.ld (upd L x (L x + v))
  have hI5 := hI4.up (e' := ia G 12 (upd L x (L x + v))) hR4.2.1 (by omega)
  refine go_aload_n hC dX2_put_24 rfl ?_
  refine go_get hC kX2 hR4.1 2 q187 dX2_put_25 rfl (by decide) (Or.inl rfl) ?_
  refine go_iload_n hC dX2_put_28 rfl ?_
  refine go_dup2 hC dX2_put_29 rfl rfl ?_
  refine go_iald hC x hR4.2.1 dX2_put_30 (by first | rfl | (simp only [nI_add, pk_mul, nI_1, Int32.add_zero]; done) | (simp only [nI_add, pk_mul, nI_1, Int32.add_zero]; exact congrArg nI (by omega))) (by omega) (by omega) ?_
  refine go_iload_n hC dX2_put_31 rfl ?_
  refine go_iadd hC dX2_put_32 ?_
  refine go_iast hC x hR4.2.1 dX2_put_33 (by first | rfl | (simp only [nI_add, pk_mul, nI_1, Int32.add_zero]; done) | (simp only [nI_add, pk_mul, nI_1, Int32.add_zero]; exact congrArg nI (by omega))) (by omega) (by omega) ?_
  refine go_aload_n hC dX2_put_34 rfl ?_
  refine go_dup hC dX2_put_35 rfl ?_
  refine go_get hC kX2 hR5.1 6 q198 dX2_put_36 rfl (by decide) (Or.inl rfl) ?_
  refine go_iconst hC (1) dX2_put_39 (by decide) ?_
  refine go_iadd hC dX2_put_40 ?_
  rw [nI_1]
  refine go_put hC kX2 hR5.1 6 q198 dX2_put_41 (by decide) (Nat.le_of_ble_eq_true rfl) (Or.inl rfl) rfl rfl rfl ?_
  refine go_vret hC hF dX2_put_44 rfl ?_
  refine ⟨rfl, ⟨B, q, upd L x (L x + v), S, Z ++ [(a, g, (sC t, v, x))], hR5.ob, hq, fun o ho => ?_, hS, hI5.up hR5.1 (by omega), by rw [List.map_append, hZ]; rfl⟩, ?_⟩
  · show upd L x (L x + v) o = ld (sI t ++ [(sC t, v, x)]) o
    rw [ld_app, ld_one]
    by_cases e : o = x
    · subst e; rw [pk_us, hL o ho, if_pos rfl]
    · rw [pk_un e, hL o ho, if_neg (fun w => e w.symm), Int32.add_zero]
  · refine fr.up (fr.up ((fr0 hf3).tr (hf4.mono (fun o w => ?_))) hR4.2.1 rfl) hR5.1 rfl
    rcases w with w | w | w
    · rw [w]
    · rw [w]
    · exact w.1
theorem c_X2_turnAs {r2 w nb w2 nb2 : Nat} {B2 : Nat → Nat} {q2 L2 S2 : Nat → Int32} {J J2 : Nat → Bool} (hR : RO G h r B w nb q L S J) (hR2 : RO G h r2 B2 w2 nb2 q2 L2 S2 J2) (hne : r ≠ r2) : CT G yX2_turnAs cX2_turnAs 2 none (rmL 1 0 0) [.ref r, .ref r2] h (fun v h' => v = none ∧ hu h r (r, 0) (ob 1 (rfs B w2 nb2 q2)) = h') noX := by
  refine CT_of [some (.ref r), some (.ref r2)] (by decide +kernel) rfl (Nat.le_of_ble_eq_true rfl) (fun X hC hF hE => ?_)
  have h2 : ∀ e, hu h r (r, 0) e r2 = some ((r2, 0), ob 1 (rfs B2 w2 nb2 q2)) := fun e => by rw [hu_ne (Ne.symm hne)]; exact hR2.1
  refine go_aload_n hC dX2_turnAs_0 rfl ?_
  refine go_aload_n hC dX2_turnAs_1 rfl ?_
  refine go_get hC kX2 hR2.1 5 q195 dX2_turnAs_2 rfl (by decide) (Or.inl rfl) ?_
  refine go_put hC kX2 hR.1 5 q195 dX2_turnAs_5 (by decide) (Nat.le_of_ble_eq_true rfl) (Or.inl rfl) rfl rfl rfl ?_
  refine go_aload_n hC dX2_turnAs_8 rfl ?_
  refine go_aload_n hC dX2_turnAs_9 rfl ?_
  refine go_get hC kX2 (h2 _) 6 q198 dX2_turnAs_10 rfl (by decide) (Or.inl rfl) ?_
  refine go_put hC kX2 hu_eq 6 q198 dX2_turnAs_13 (by decide) (Nat.le_of_ble_eq_true rfl) (Or.inl rfl) rfl rfl rfl ?_
  rw [hu_hu]
  refine go_aload_n hC dX2_turnAs_16 rfl ?_
  refine go_aload_n hC dX2_turnAs_17 rfl ?_
  refine go_get hC kX2 (h2 _) 7 q200 dX2_turnAs_18 rfl (by decide) (Or.inl rfl) ?_
  refine go_put hC kX2 hu_eq 7 q200 dX2_turnAs_21 (by decide) (Nat.le_of_ble_eq_true rfl) (Or.inl rfl) rfl rfl rfl ?_
  rw [hu_hu]
  refine go_aload_n hC dX2_turnAs_24 rfl ?_
  refine go_aload_n hC dX2_turnAs_25 rfl ?_
  refine go_get hC kX2 (h2 _) 8 q201 dX2_turnAs_26 rfl (by decide) (Or.inl rfl) ?_
  refine go_put hC kX2 hu_eq 8 q201 dX2_turnAs_29 (by decide) (Nat.le_of_ble_eq_true rfl) (Or.inl rfl) rfl rfl rfl ?_
  rw [hu_hu]
  refine go_aload_n hC dX2_turnAs_32 rfl ?_
  refine go_aload_n hC dX2_turnAs_33 rfl ?_
  refine go_get hC kX2 (h2 _) 9 q203 dX2_turnAs_34 rfl (by decide) (Or.inl rfl) ?_
  refine go_put hC kX2 hu_eq 9 q203 dX2_turnAs_37 (by decide) (Nat.le_of_ble_eq_true rfl) (Or.inl rfl) rfl rfl rfl ?_
  rw [hu_hu]
  refine go_aload_n hC dX2_turnAs_40 rfl ?_
  refine go_aload_n hC dX2_turnAs_41 rfl ?_
  refine go_get hC kX2 (h2 _) 10 q205 dX2_turnAs_42 rfl (by decide) (Or.inl rfl) ?_
  refine go_put hC kX2 hu_eq 10 q205 dX2_turnAs_45 (by decide) (Nat.le_of_ble_eq_true rfl) (Or.inl rfl) rfl rfl rfl ?_
  rw [hu_hu]
  refine go_vret hC hF dX2_turnAs_48 rfl ?_
  exact ⟨rfl, rfl⟩
end RT
