/-! THE RING: its items -/
set_option maxRecDepth 100000
/-- an item's address, its tag's, the item -/
abbrev Zt : Type := Nat × Nat × It
abbrev zN (z : Zt) : Nat := z.2.2.1
def zM (Z : List Zt) : Nat → Option Nat := fun n => (Z.find? (fun z => zN z == n)).map (fun z => z.1)
abbrev itc (z : Zt) : va_E := ob 2 [.ref z.2.1, .int z.2.2.2.1, .int (nI z.2.2.2.2)]
abbrev iL (r n : Nat) : Ow := (r, 16 + 2 * n)
/-- a ring's list and map -/
def LI (G : GT) (h : PH) (r d : Nat) (B : Nat → Nat) (Z : List Zt) : Prop :=
  AL G h (r, 1) (r, 7) (B 0) (Z.map (fun z => z.1)) ∧ HM G h r d (B 1) Z.length (zM Z) ∧ ∀ z ∈ Z, zN z < 64 ∧ h z.1 = some (iL r (zN z), itc z) ∧ h z.2.1 = some ((d, 9), tgc (zN z))
/-- cells of a ring's list and map -/
def Pl (r : Nat) (o : Ow) : Prop := o = (r, 1) ∨ o = (r, 7) ∨ Pm r o
/-- a ring in a state t -/
def RV (G : GT) (h : PH) (r d : Nat) (t : St) (B : Nat → Nat) (q L S : Nat → Int32) (Z : List Zt) : Prop :=
  RO G h r B (sW t) (sC t) q L S (sJ t) ∧ (q 0 + q 1 = sN t 4 ∧ q 1 = sN t 5 ∧ q 2 = sN t 6 ∧ q 3 = sN t 7) ∧ (∀ o, o < 12 → L o = ld (sI t) o) ∧ (∀ k, k < 3 → S k = sN t k) ∧ LI G h r d B Z ∧ Z.map (fun z => z.2.2) = sI t
def RG (G : GT) (h : PH) (r d : Nat) (t : St) : Prop := ∃ B q L S Z, RV G h r d t B q L S Z
abbrev P0 : Ow → Prop := fun _ => False
theorem fr0 {P : Ow → Prop} {h h' : PH} (z : fr P0 h h') : fr P h h' := z.mono (fun _ w => w.elim)
theorem LI.fr {P : Ow → Prop} {G : GT} {h h' : PH} {r d : Nat} {B : Nat → Nat} {Z : List Zt} (hL : LI G h r d B Z) (z : fr P h h') (n1 : ¬ P (d, 9)) (n2 : ∀ o, Pl r o → ¬ P o) (n3 : ∀ z ∈ Z, ¬ P (iL r (zN z))) : LI G h' r d B Z := by
  obtain ⟨h1, h2, h3⟩ := hL
  exact ⟨h1.fr z (n2 _ (Or.inl rfl)) (n2 _ (Or.inr (Or.inl rfl))), h2.fr z n1 (fun o ho => n2 o (Or.inr (Or.inr ho))), fun y hy => ⟨(h3 y hy).1, z _ _ _ (h3 y hy).2.1 (n3 y hy), z _ _ _ (h3 y hy).2.2 n1⟩⟩
theorem RV.fr {P : Ow → Prop} {G : GT} {h h' : PH} {r d : Nat} {t : St} {B : Nat → Nat} {q L S : Nat → Int32} {Z : List Zt} (hV : RV G h r d t B q L S Z) (z : fr P h h') (n1 : ¬ P (d, 9)) (n2 : ∀ o : Ow, o.1 = r → ¬ P o) : RV G h' r d t B q L S Z := by
  obtain ⟨h1, h2, h3, h4, h5, h6⟩ := hV
  refine ⟨h1.fr z (fun i _ => n2 _ rfl), h2, h3, h4, h5.fr z n1 (fun o ho => n2 o ?_) (fun y _ => n2 _ rfl), h6⟩
  rcases ho with e | e | e
  · rw [e]
  · rw [e]
  · exact e.1
theorem zM_itm {Z : List Zt} {x : Int32} {k : Nat} (hk : k < 2 ^ 31) (hx : x = nI k) (hZ : ∀ z ∈ Z, zN z < 64) : (Z.find? (fun z => isX x z.2.2)) = Z.find? (fun z => zN z == k) := by
  subst hx
  have : ∀ z ∈ Z, isX (nI k) z.2.2 = (zN z == k) := fun z hz => by
    have := hZ z hz
    unfold isX
    by_cases e : zN z = k
    · have e1 : z.2.2.1 = k := e
      rw [e1, e]; simp
    · have h2 : ¬ nI z.2.2.1 = nI k := fun w => e ((nI_eq (by omega) hk).mp w)
      rw [beq_false_of_ne h2, beq_false_of_ne e]
  induction Z with
  | nil => rfl
  | cons z Z ih =>
    rw [List.find?_cons, List.find?_cons, this z List.mem_cons_self, ih (fun y hy => hZ y (List.mem_cons_of_mem _ hy)) (fun y hy => this y (List.mem_cons_of_mem _ hy))]
theorem map_find {Z : List Zt} {p : It → Bool} : (Z.map (fun z => z.2.2)).find? p = (Z.find? (fun z => p z.2.2)).map (fun z => z.2.2) := by
  rw [List.find?_map]; rfl
theorem wayR_eq {l : List It} {L S : Nat → Int32} (h : ∀ x ∈ l, x.2.2 < 12) (hL : ∀ o, o < 12 → L o = ld l o) (w d : Nat) : wayR L S w d = wayP (imb l) (S 0) w d := by
  have e : ∀ st b, opn (imbR L) (S 0) w st b = opn (imb l) (S 0) w st b := fun st b => by
    unfold opn
    congr 1
    funext k
    rw [imbR_imb h hL (Nat.mod_lt _ (by omega))]
  unfold wayR wayP
  rw [e, e]
section RI
variable {G : GT} {h : PH} {r d : Nat} {t : St} {B : Nat → Nat} {q L S : Nat → Int32} {Z : List Zt} {c : Nat}
theorem RV.wayE (hV : RV G h r d t B q L S Z) (hw : WF c t) (x : Nat) : wayR L S (sW t) x = way t x := by
  rw [wayR_eq hw.d.2 hV.2.2.1]
  unfold way
  rw [hV.2.2.2.1 0 (by omega)]
theorem RV.z64 (hV : RV G h r d t B q L S Z) : ∀ z ∈ Z, zN z < 64 := fun z hz => (hV.2.2.2.2.1.2.2 z hz).1
theorem RV.itmE (hV : RV G h r d t B q L S Z) (x : Int32) : itm (sI t) x = (Z.find? (fun z => isX x z.2.2)).map (fun z => z.2.2) := by
  rw [← hV.2.2.2.2.2]
  exact map_find
theorem RV.mem (hV : RV G h r d t B q L S Z) (hw : WF c t) {z : Zt} (hz : z ∈ Z) : zN z < sC t ∧ z.2.2.2.2 < 12 := (hw.2.2.2.1 z.2.2 (by rw [← hV.2.2.2.2.2]; exact List.mem_map.mpr ⟨z, hz, rfl⟩)).1
/-- the item of a number: its address, or null; a tag is made -/
theorem c_X2_item (hV : RV G h r d t B q L S Z) (hw : WF c t) (hc : c ≤ 64) (x : Int32) : CT G yX2_item cX2_item 2 (some (.object "DrawerRing$Item")) (rmL 5 1 1) [.ref r, .int x] h (fun v h' => v = some (vO ((Z.find? (fun z => isX x z.2.2)).map (fun z => z.1))) ∧ fr P0 h h') noX := by
  have hR := hV.1
  have hcc := hw.2.1
  refine CT_of [some (.ref r), some (.int x)] (by decide +kernel) rfl (Nat.le_of_ble_eq_true rfl) (fun X hC hF hE => ?_)
  show Go X G h 1 1 0 _ _
  have none9 : (∀ z ∈ Z, isX x z.2.2 = false) → Go X G h 1 1 12 [some (.ref r), some (.int x)] [] := by
    intro hz
    refine go_null hC dX2_item_12 ?_
    refine go_goto hC 34 dX2_item_13 (by decide) ?_
    refine go_aret hC hF dX2_item_34 rfl (Or.inl ⟨_, rfl⟩) (Or.inl rfl) ?_
    rw [List.find?_eq_none.mpr (fun z hz2 => by rw [hz z hz2]; decide)]
    exact ⟨rfl, fr.rf⟩
  refine go_iload_n hC dX2_item_0 rfl ?_
  refine go_if_lt hC 12 dX2_item_1 (by decide) (fun c1 => ?_) (fun c1 => ?_)
  rotate_left
  · by_cases c2 : x < nI (sC t)
    · obtain ⟨k, hk1, hk2⟩ := nI_of c1
      have hk3 : k < sC t := by rw [hk2] at c2; exact (nI_ltI hk1 (by omega)).mp c2
      refine go_iload_n hC dX2_item_4 rfl ?_
      refine go_aload_n hC dX2_item_5 rfl ?_
      refine go_get hC kX2 hR.1 6 q198 dX2_item_6 rfl (by decide) (Or.inl rfl) ?_
      refine go_icmp_lt hC 16 dX2_item_9 (by decide) (fun _ => ?_) (fun z => absurd c2 z)
      refine go_aload_n hC dX2_item_16 rfl ?_
      refine go_get hC kX2 hR.1 1 q186 dX2_item_17 rfl (by decide) (Or.inl rfl) ?_
      refine go_new hC kX5 nfX5 (fun _ => (d, 9)) q731 q732 q107 dfX5 (by omega) (by omega) dX2_item_20 (fun g gn gb => ?_)
      refine go_dup hC dX2_item_23 rfl ?_
      refine go_iload_n hC dX2_item_24 rfl ?_
      refine go_callI0 hC (c_X5_init hu_eq x) q735 q107 q733 q734 rfl dX2_item_25 1 rfl (by decide +kernel) rfl ⟨Nat.le_of_ble_eq_true rfl, Nat.le_of_ble_eq_true rfl⟩ (Nat.le_of_ble_eq_true rfl) ⟨rfl, rfl⟩ ?_
      rintro _ _ ⟨rfl, rfl⟩
      rw [hu_hu]
      have hfr : fr P0 h (hu h g (d, 9) (ob 3 [.int x])) := fr.rf.nw gn
      have hV2 : RV G (hu h g (d, 9) (ob 3 [.int x])) r d t B q L S Z := hV.fr hfr (fun w => w) (fun _ _ w => w)
      have ht : hu h g (d, 9) (ob 3 [.int x]) g = some ((d, 9), tgc k) := by rw [hu_eq, hk2]
      generalize hu h g (d, 9) (ob 3 [.int x]) = h2 at hfr hV2 ht
      have hmp : ∃ fs, h2 (B 1) = some ((r, 2), ob 8 fs) := by
        obtain ⟨mc, lf, w | ⟨k, T, f, bk, w⟩⟩ := hV2.2.2.2.2.1.2.1
        · exact ⟨_, w.1⟩
        · exact ⟨_, w.2.1⟩
      obtain ⟨fs, hmp⟩ := hmp
      refine go_callV0 hC (c_J4_get hV2.2.2.2.2.1.2.1 ht (show k < 64 by omega)) (lw_V q742 q743 q744 q78 q745) hmp rfl dX2_item_28 1 rfl (by decide +kernel) rfl ⟨Nat.le_of_ble_eq_true rfl, Nat.le_of_ble_eq_true rfl⟩ (Nat.le_of_ble_eq_true rfl) ⟨rfl, rfl⟩ ?_
      rintro _ _ ⟨rfl, rfl⟩
      have e : zM Z k = (Z.find? (fun z => isX x z.2.2)).map (fun z => z.1) := by rw [zM_itm hk1 hk2 hV.z64]; rfl
      rw [e]
      cases hf : Z.find? (fun z => isX x z.2.2) with
      | none =>
        refine go_castN hC dX2_item_31 ?_
        refine go_aret hC hF dX2_item_34 rfl (Or.inl ⟨_, rfl⟩) (Or.inl rfl) ?_
        rw [hf]
        exact ⟨rfl, hfr⟩
      | some z =>
        have hz := hV2.2.2.2.2.1.2.2 z (List.mem_of_find?_eq_some hf)
        refine go_cast hC hz.2.1 rfl q1093 rfl dX2_item_31 ?_
        refine go_aret hC hF dX2_item_34 rfl (Or.inl ⟨_, rfl⟩) (Or.inr ⟨_, rfl⟩) ?_
        rw [hf]
        exact ⟨rfl, hfr⟩
    · refine go_iload_n hC dX2_item_4 rfl ?_
      refine go_aload_n hC dX2_item_5 rfl ?_
      refine go_get hC kX2 hR.1 6 q198 dX2_item_6 rfl (by decide) (Or.inl rfl) ?_
      refine go_icmp_lt hC 16 dX2_item_9 (by decide) (fun z => absurd z c2) (fun _ => ?_)
      refine none9 (fun z hz => ?_)
      have := (hV.mem hw hz).1
      unfold isX
      refine beq_false_of_ne (fun e => c2 ?_)
      rw [← e]
      exact nI_lt this (by omega)
  · refine none9 (fun z hz => ?_)
    have : z.2.2.1 < sC t := (hV.mem hw hz).1
    unfold isX
    refine beq_false_of_ne (fun e => ?_)
    rw [← e] at c1
    exact nI_pos (by omega) c1
theorem c_X2_refusal (hV : RV G h r d t B q L S Z) (hw : WF c t) (hc : c ≤ 64) (x : Int32) : CT G yX2_refusal cX2_refusal 3 (some .int) (rmL 6 1 1) [.ref r, .int x] h (fun v h' => v = some (.int (reason t x)) ∧ fr P0 h h') noX := by
  refine CT_of [some (.ref r), some (.int x), none] (by decide +kernel) rfl (Nat.le_of_ble_eq_true rfl) (fun X hC hF hE => ?_)
  show Go X G h 1 1 0 _ _
  have hi := hV.itmE x
  refine go_aload_n hC dX2_refusal_0 rfl ?_
  refine go_iload_n hC dX2_refusal_1 rfl ?_
  refine go_callV hC (c_X2_item hV hw hc x) (lw_V q727 q728 q729 q73 q730) hV.1.1 rfl dX2_refusal_2 1 rfl (by decide +kernel) rfl ⟨Nat.le_of_ble_eq_true rfl, Nat.le_of_ble_eq_true rfl⟩ (Nat.le_of_ble_eq_true rfl) (Nat.le_refl _) (Nat.le_refl _) ?_
  rintro _ h2 ⟨rfl, hfr⟩
  have hV2 : RV G h2 r d t B q L S Z := hV.fr hfr (fun w => w) (fun _ _ w => w)
  cases hf : Z.find? (fun z => isX x z.2.2) with
  | none =>
    rw [hf] at hi
    refine go_astore_nN hC dX2_refusal_5 (by decide) ?_
    refine go_aload_nN hC dX2_refusal_6 rfl ?_
    refine go_ifnonnullN hC dX2_refusal_7 ?_
    refine go_iconst hC (1) dX2_refusal_10 (by decide) ?_
    refine go_goto hC 48 dX2_refusal_11 (by decide) ?_
    refine go_iret hC hF dX2_refusal_48 rfl rfl ?_
    exact ⟨by unfold reason; rw [hi]; rfl, hfr⟩
  | some z =>
    rw [hf] at hi
    have hzm := List.mem_of_find?_eq_some hf
    have hz := (hV2.2.2.2.2.1.2.2 z hzm).2.1
    have hd := (hV.mem hw hzm).2
    obtain ⟨JJ, hJ1, hJ2⟩ := hV2.1.2.2.1
    have er : reason t x = if sJ t z.2.2.2.2 = true then 2 else if way t z.2.2.2.2 = 99 then 3 else 0 := by
      unfold reason; rw [hi]; rfl
    refine go_astore_n hC dX2_refusal_5 (by decide) ?_
    refine go_aload_n hC dX2_refusal_6 rfl ?_
    refine go_ifnonnull hC 14 dX2_refusal_7 (by decide) ?_
    refine go_aload_n hC dX2_refusal_14 rfl ?_
    refine go_get hC kX2 hV2.1.1 3 q190 dX2_refusal_15 rfl (by decide) (Or.inl rfl) ?_
    refine go_aload_n hC dX2_refusal_18 rfl ?_
    refine go_getN hC kX4 hz 2 q1233 dX2_refusal_19 rfl (by decide) (Or.inl rfl) ?_
    refine go_zald hC z.2.2.2.2 hJ1 dX2_refusal_22 (by first | rfl | (simp only [nI_add, pk_mul, nI_1, Int32.add_zero]; done) | (simp only [nI_add, pk_mul, nI_1, Int32.add_zero]; exact congrArg nI (by omega))) (by omega) (by omega) ?_
    rw [hJ2 _ hd]
    refine go_B_eq hC 30 dX2_refusal_23 (by decide) rfl (fun c23 => ?_) (fun c23 => ?_)
    · refine go_aload_n hC dX2_refusal_30 rfl ?_
      refine go_aload_n hC dX2_refusal_31 rfl ?_
      refine go_getN hC kX4 hz 2 q1233 dX2_refusal_32 rfl (by decide) (Or.inl rfl) ?_
      refine go_callV0 hC (c_X2_way hV2.1 hw.w z.2.2.2.2 hd) (lw_V q1094 q1095 q1096 q73 q1097) hV2.1.1 rfl dX2_refusal_35 1 rfl (by decide +kernel) rfl ⟨Nat.le_of_ble_eq_true rfl, Nat.le_of_ble_eq_true rfl⟩ (Nat.le_of_ble_eq_true rfl) ⟨rfl, rfl⟩ ?_
      rintro _ _ ⟨rfl, rfl⟩
      rw [hV2.wayE hw]
      refine go_bipush hC (nI 99) dX2_refusal_38 (by decide) ?_
      refine go_icmp_ne hC 47 dX2_refusal_40 (by decide) (fun c40 => ?_) (fun c40 => ?_)
      · refine go_iconst hC (0) dX2_refusal_47 (by decide) ?_
        refine go_iret hC hF dX2_refusal_48 rfl rfl ?_
        exact ⟨by rw [er, if_neg (fun w => absurd (c23.symm.trans w) (by decide)), if_neg (show ¬ way t z.2.2.2.2 = 99 from c40)], hfr⟩
      · refine go_iconst hC (nI 3) dX2_refusal_43 (by decide) ?_
        refine go_goto hC 48 dX2_refusal_44 (by decide) ?_
        refine go_iret hC hF dX2_refusal_48 rfl rfl ?_
        exact ⟨by rw [er, if_neg (fun w => absurd (c23.symm.trans w) (by decide)), if_pos (show way t z.2.2.2.2 = 99 from c40)]; rfl, hfr⟩
    · refine go_iconst hC (nI 2) dX2_refusal_26 (by decide) ?_
      refine go_goto hC 48 dX2_refusal_27 (by decide) ?_
      refine go_iret hC hF dX2_refusal_48 rfl rfl ?_
      exact ⟨by rw [er, if_pos c23]; rfl, hfr⟩
/-- one more item -/
theorem c_X2_add {w nb : Nat} {J : Nat → Bool} (hR : RO G h r B w nb q L S J) (hL : LI G h r d B Z) (z : Zt) (hz : zN z < 64) (hz1 : h z.1 = some (iL r (zN z), itc z)) (hz2 : h z.2.1 = some ((d, 9), tgc (zN z))) (hnew : ∀ y ∈ Z, zN y ≠ zN z) (hlen : Z.length < 40) : CT G yX2_add cX2_add 2 none (rmL 7 3 128) [.ref r, .ref z.1] h (fun v h' => v = none ∧ LI G h' r d B (Z ++ [z]) ∧ fr (Pl r) h h') noX := by
  refine CT_of [some (.ref r), some (.ref z.1)] (by decide +kernel) rfl (Nat.le_of_ble_eq_true rfl) (fun X hC hF hE => ?_)
  show Go X G h 3 128 0 _ _
  have nP : ∀ i, i = 0 ∨ 3 ≤ i ∧ i ≤ 5 ∨ 16 ≤ i ∧ i % 2 = 0 → ¬ fo1 (r, 1) (r, 7) (r, i) := fun i hi e => by
    rcases e with e | e
    · have := congrArg Prod.snd e; dsimp at this; omega
    · have := congrArg Prod.snd e; dsimp at this; omega
  have n9 : ¬ fo1 (r, 1) (r, 7) (d, 9) := fun e => by
    rcases e with e | e
    · have := congrArg Prod.snd e; dsimp at this; omega
    · have := congrArg Prod.snd e; dsimp at this; omega
  have nPm : ∀ o, Pm r o → ¬ fo1 (r, 1) (r, 7) o := fun o ho e => by
    obtain ⟨h1, h2⟩ := ho
    rcases e with e | e <;> rw [e] at h2 <;> dsimp at h2 <;> omega
  have mP : ∀ i, i = 0 ∨ i = 1 ∨ i = 7 ∨ 3 ≤ i ∧ i ≤ 5 ∨ 16 ≤ i ∧ i % 2 = 0 → ¬ Pm r (r, i) := fun i hi e => by
    have := e.2; dsimp at this; omega
  have m9 : ¬ Pm r (d, 9) := fun e => by have := e.2; dsimp at this; omega
  obtain ⟨a1, a2, a3⟩ := hL
  obtain ⟨mc, D, hl, hD⟩ := id a1
  have hel : ∀ a ∈ Z.map (fun z => z.1), ∃ (o2 : Ow) (vs : List Value), h a = some (o2, ob 2 vs) := fun a ha => by
    obtain ⟨y, hy, e⟩ := List.mem_map.mp ha
    rw [← e]
    exact ⟨_, _, (a3 y hy).2.1⟩
  refine go_aload_n hC dX2_add_0 rfl ?_
  refine go_get hC kX2 hR.1 0 q184 dX2_add_1 rfl (by decide) (Or.inl rfl) ?_
  refine go_aload_n hC dX2_add_4 rfl ?_
  refine go_callV hC (c_J2_add a1 (ow_ne (by decide)) (by rw [List.length_map]; omega) rfl (by decide) q2080 hel hz1 ⟨(ow_ne (by omega)), (ow_ne (by omega))⟩) (lw_V q1247 q1248 q1249 q76 q1250) hl rfl dX2_add_5 1 rfl (by decide +kernel) rfl ⟨Nat.le_of_ble_eq_true rfl, Nat.le_of_ble_eq_true rfl⟩ (Nat.le_of_ble_eq_true rfl) (Nat.le_of_ble_eq_true rfl) (Nat.le_of_ble_eq_true rfl) ?_
  rintro _ h2 ⟨rfl, hA2, hf2⟩
  have hR2 := hR.fr hf2 (fun i hi => nP i (by omega))
  have hz1' := hf2 _ _ _ hz1 (nP _ (by omega))
  have hz2' := hf2 _ _ _ hz2 n9
  have hM2 := a2.fr hf2 n9 nPm
  have hab : zM Z (zN z) = none := by
    unfold zM
    rw [List.find?_eq_none.mpr (fun y hy => by simpa using hnew y hy)]; rfl
  have hmp : ∃ fs, h2 (B 1) = some ((r, 2), ob 8 fs) := by
    obtain ⟨mc, lf, w | ⟨k, T, f, bk, w⟩⟩ := hM2
    · exact ⟨_, w.1⟩
    · exact ⟨_, w.2.1⟩
  obtain ⟨fs, hmp⟩ := hmp
  refine go_pop hC dX2_add_8 rfl ?_
  refine go_aload_n hC dX2_add_9 rfl ?_
  refine go_get hC kX2 hR2.1 1 q186 dX2_add_10 rfl (by decide) (Or.inl rfl) ?_
  refine go_aload_n hC dX2_add_13 rfl ?_
  refine go_getN hC kX4 hz1' 0 q1226 dX2_add_14 rfl (by decide) (Or.inl rfl) ?_
  refine go_aload_n hC dX2_add_17 rfl ?_
  refine go_callV hC (c_J4_put hM2 hz2' hz hab (by omega)) (lw_V q1276 q1277 q1278 q78 q1279) hmp rfl dX2_add_18 2 rfl (by decide +kernel) rfl ⟨Nat.le_of_ble_eq_true rfl, Nat.le_of_ble_eq_true rfl⟩ (Nat.le_of_ble_eq_true rfl) (Nat.le_of_ble_eq_true rfl) (Nat.le_of_ble_eq_true rfl) ?_
  rintro _ h3 ⟨rfl, hM3, hf3⟩
  refine go_pop hC dX2_add_21 rfl ?_
  refine go_vret hC hF dX2_add_22 rfl ?_
  have hfr : fr (Pl r) h h3 := (hf2.mono (fun o e => e.elim Or.inl (fun e => Or.inr (Or.inl e)))).tr (hf3.mono (fun o e => Or.inr (Or.inr e)))
  have pi : ∀ n, ¬ Pl r (iL r n) := fun n e => by
    rcases e with e | e | e
    · have := congrArg Prod.snd e; dsimp at this; omega
    · have := congrArg Prod.snd e; dsimp at this; omega
    · exact mP _ (by omega) e
  have p9 : ¬ Pl r (d, 9) := fun e => by
    rcases e with e | e | e
    · have := congrArg Prod.snd e; dsimp at this; omega
    · have := congrArg Prod.snd e; dsimp at this; omega
    · exact m9 e
  refine ⟨rfl, ⟨by rw [List.map_append, List.map_singleton]; exact hA2.fr hf3 (mP _ (by omega)) (mP _ (by omega)), ?_, fun y hy => ?_⟩, hfr⟩
  · have e : (fun q => if q = zN z then some z.1 else zM Z q) = zM (Z ++ [z]) := by
      funext n
      unfold zM
      rw [List.find?_append]
      by_cases en : n = zN z
      · subst en
        rw [if_pos rfl, List.find?_eq_none.mpr (fun y hy => by simpa using hnew y hy)]
        simp
      · rw [if_neg en, List.find?_cons_of_neg (by simp; exact fun w => en w.symm)]
        simp
    rw [List.length_append, List.length_singleton, ← e]
    exact hM3
  · rcases List.mem_append.mp hy with w | w
    · exact ⟨(a3 y w).1, hfr _ _ _ (a3 y w).2.1 (pi _), hfr _ _ _ (a3 y w).2.2 p9⟩
    · rw [List.mem_singleton.mp w]
      exact ⟨hz, hfr _ _ _ hz1 (pi _), hfr _ _ _ hz2 p9⟩
end RI
