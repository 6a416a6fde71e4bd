/-! Tags, items, a map's nodes; java.util.HashMap: what it holds, and its look -/
set_option maxRecDepth 100000
abbrev hsh (n : Nat) : Nat := 31 * n + 17
abbrev vO (p : Option Nat) : Value := match p with
  | none => .null
  | some a => .ref a
/-- a node: its address, its tag's, its item's, its number -/
abbrev Nd : Type := Nat × Nat × Nat × Nat
abbrev nA (x : Nd) : Nat := x.1
abbrev nT (x : Nd) : Nat := x.2.1
abbrev nV (x : Nd) : Nat := x.2.2.1
abbrev nN (x : Nd) : Nat := x.2.2.2
abbrev ndc (x : Nd) (nx : Option Nat) : va_E := ob 9 [.int (nI (hsh (nN x))), .ref (nT x), .ref (nV x), vO nx]
abbrev nL9 (r n : Nat) : Ow := (r, 17 + 2 * n)
abbrev tgc (n : Nat) : va_E := ob 3 [.int (nI n)]
/-- nodes from p on, the last one's next is e; tags are owned by d -/
def seg (h : PH) (r d : Nat) : List Nd → Option Nat → Option Nat → Prop
  | [], p, e => p = e
  | x :: l, p, e => p = some (nA x) ∧ nN x < 64 ∧ h (nT x) = some ((d, 9), tgc (nN x)) ∧ ∃ nx, h (nA x) = some (nL9 r (nN x), ndc x nx) ∧ seg h r d l nx e
abbrev chn (h : PH) (r d : Nat) (l : List Nd) (p : Option Nat) : Prop := seg h r d l p none
theorem hs31 {n : Nat} (h : n < 64) : hsh n < 2 ^ 31 := by show 31 * n + 17 < _; omega
theorem hs_inj {a b : Nat} (h : hsh a = hsh b) : a = b := by
  have h1 : 31 * a + 17 = 31 * b + 17 := h
  omega
theorem hsh_xor : ∀ n, n < 64 → nI (hsh n) ^^^ ((nI (hsh n)).toUInt32 >>> ((nI 16).toUInt32 &&& Int32.toUInt32 31)).toInt32 = nI (hsh n) := by decide +kernel
theorem hsh_ix {k n : Nat} (hk : k ≤ 6) (hn : n < 64) : (nI (2 ^ k) - 1) &&& nI (hsh n) = nI (hsh n % 2 ^ k) := by
  have hp : 2 ^ k ≤ 2 ^ 6 := Nat.pow_le_pow_right (by omega) hk
  have h1 : 0 < 2 ^ k := Nat.two_pow_pos k
  have e : nI (2 ^ k) - 1 = nI (2 ^ k - 1) := pk_sub (b := 1) h1
  have hh : hsh n < 2 ^ 32 := by show 31 * n + 17 < _; omega
  rw [e, Int32.and_comm]
  exact pk_andN hh k (pk_tn (by omega))
section TG
variable {G : GT} {h : PH} {r d mp t a n n2 : Nat} {o o2 : Ow}
theorem c_X5_init (ht : h t = some (o, ob 3 nfX5)) (x : Int32) : CT G yX5_init cX5_init 2 none (rmL 1 0 0) [.ref t, .int x] h (fun v h' => v = none ∧ hu h t o (ob 3 [.int x]) = h') noX := by
  refine CT_ofI [some (.ref t), some (.int x)] (by decide +kernel) rfl (Nat.le_of_ble_eq_true rfl) (fun X hC hF hE hI => ?_)
  refine go_aload_n hC dX5_init_0 rfl ?_
  refine go_objI hC q736 q118 q119 (Nat.le_of_ble_eq_true rfl) ⟨Nat.le_of_ble_eq_true rfl, Nat.le_of_ble_eq_true rfl⟩ dX5_init_1 ?_
  refine go_aload_n hC dX5_init_4 rfl ?_
  refine go_iload_n hC dX5_init_5 rfl ?_
  refine go_putF hC hI kX5 ht 0 q737 dX5_init_6 (by decide) (Nat.le_of_ble_eq_true rfl) (Or.inl rfl) rfl rfl rfl rfl ?_
  refine go_vret hC hF dX5_init_9 rfl ?_
  exact ⟨rfl, rfl⟩
theorem c_X5_hashCode (ht : h t = some (o, tgc n)) : CT G yX5_hashCode cX5_hashCode 1 (some .int) (rmL 1 0 0) [.ref t] h (fun v h' => v = some (.int (nI (hsh n))) ∧ h = h') noX := by
  refine CT_of [some (.ref t)] (by decide +kernel) rfl (Nat.le_of_ble_eq_true rfl) (fun X hC hF hE => ?_)
  refine go_bipush hC (nI 31) dX5_hashCode_0 (by decide) ?_
  refine go_aload_n hC dX5_hashCode_2 rfl ?_
  refine go_get hC kX5 ht 0 q737 dX5_hashCode_3 rfl (by decide) (Or.inl rfl) ?_
  refine go_imul hC dX5_hashCode_6 ?_
  refine go_bipush hC (nI 17) dX5_hashCode_7 (by decide) ?_
  refine go_iadd hC dX5_hashCode_9 ?_
  refine go_iret hC hF dX5_hashCode_10 rfl rfl ?_
  exact ⟨by rw [pk_mul, nI_add], rfl⟩
theorem c_X5_equals (ht : h t = some (o, tgc n)) (ha : h a = some (o2, tgc n2)) (hn : n < 2 ^ 31) (hn2 : n2 < 2 ^ 31) : CT G yX5_equals cX5_equals 2 (some .boolean) (rmL 1 0 0) [.ref t, .ref a] h (fun v h' => v = some (.int (bI (decide (n = n2)))) ∧ h = h') noX := by
  refine CT_of [some (.ref t), some (.ref a)] (by decide +kernel) rfl (Nat.le_of_ble_eq_true rfl) (fun X hC hF hE => ?_)
  refine go_aload_n hC dX5_equals_0 rfl ?_
  refine go_inst hC ha rfl q847 rfl dX5_equals_1 ?_
  refine go_B_eq hC 25 dX5_equals_4 (by decide) (show (1 : Int32) = bI true from rfl) (fun z => absurd z (by decide)) (fun c4 => ?_)
  refine go_aload_n hC dX5_equals_7 rfl ?_
  refine go_cast hC ha rfl q847 rfl dX5_equals_8 ?_
  refine go_get hC kX5 ha 0 q737 dX5_equals_11 rfl (by decide) (Or.inl rfl) ?_
  refine go_aload_n hC dX5_equals_14 rfl ?_
  refine go_get hC kX5 ht 0 q737 dX5_equals_15 rfl (by decide) (Or.inl rfl) ?_
  refine go_N_ne hC 25 dX5_equals_18 (by decide) rfl rfl (by omega) (by omega) (fun c18 => ?_) (fun c18 => ?_)
  · refine go_iconst hC (0) dX5_equals_25 (by decide) ?_
    refine go_iret hC hF dX5_equals_26 rfl rfl ?_
    exact ⟨by rw [decide_eq_false (fun z => c18 z.symm)]; rfl, rfl⟩
  · refine go_iconst hC (1) dX5_equals_21 (by decide) ?_
    refine go_goto hC 26 dX5_equals_22 (by decide) ?_
    refine go_iret hC hF dX5_equals_26 rfl rfl ?_
    exact ⟨by rw [decide_eq_true c18.symm]; rfl, rfl⟩
theorem c_X4_init (hi : h a = some (o, ob 2 nfX4)) (x y : Int32) : CT G yX4_init cX4_init 4 none (rmL 1 0 0) [.ref a, .ref t, .int x, .int y] h (fun v h' => v = none ∧ hu h a o (ob 2 [.ref t, .int x, .int y]) = h') noX := by
  refine CT_ofI [some (.ref a), some (.ref t), some (.int x), some (.int y)] (by decide +kernel) rfl (Nat.le_of_ble_eq_true rfl) (fun X hC hF hE hI => ?_)
  refine go_aload_n hC dX4_init_0 rfl ?_
  refine go_objI hC q1224 q118 q119 (Nat.le_of_ble_eq_true rfl) ⟨Nat.le_of_ble_eq_true rfl, Nat.le_of_ble_eq_true rfl⟩ dX4_init_1 ?_
  refine go_aload_n hC dX4_init_4 rfl ?_
  refine go_aload_n hC dX4_init_5 rfl ?_
  refine go_putF hC hI kX4 hi 0 q1225 dX4_init_6 (by decide) (Nat.le_of_ble_eq_true rfl) (Or.inl rfl) rfl rfl rfl rfl ?_
  refine go_aload_n hC dX4_init_9 rfl ?_
  refine go_iload_n hC dX4_init_10 rfl ?_
  refine go_putF hC hI kX4 hu_eq 1 q1228 dX4_init_11 (by decide) (Nat.le_of_ble_eq_true rfl) (Or.inl rfl) rfl rfl rfl rfl ?_
  rw [hu_hu]
  refine go_aload_n hC dX4_init_14 rfl ?_
  refine go_iload_n hC dX4_init_15 rfl ?_
  refine go_put hC kX4 hu_eq 2 q1232 dX4_init_16 (by decide) (Nat.le_of_ble_eq_true rfl) (Or.inl rfl) rfl rfl rfl ?_
  rw [hu_hu]
  refine go_vret hC hF dX4_init_19 rfl ?_
  exact ⟨rfl, rfl⟩
theorem c_J23_init (hi : h a = some (o, ob 9 nfJ23)) (x : Nd) : CT G yJ23_init cJ23_init 5 none (rmL 1 0 0) [.ref a, .int (nI (hsh (nN x))), .ref (nT x), .ref (nV x), .null] h (fun v h' => v = none ∧ hu h a o (ndc x none) = h') noX := by
  refine CT_ofI [some (.ref a), some (.int (nI (hsh (nN x)))), some (.ref (nT x)), some (.ref (nV x)), some .null] (by decide +kernel) rfl (Nat.le_of_ble_eq_true rfl) (fun X hC hF hE hI => ?_)
  refine go_aload_n hC dJ23_init_0 rfl ?_
  refine go_objI hC q1310 q118 q119 (Nat.le_of_ble_eq_true rfl) ⟨Nat.le_of_ble_eq_true rfl, Nat.le_of_ble_eq_true rfl⟩ dJ23_init_1 ?_
  refine go_aload_n hC dJ23_init_4 rfl ?_
  refine go_iload_n hC dJ23_init_5 rfl ?_
  refine go_putF hC hI kJ23 hi 0 q1311 dJ23_init_6 (by decide) (Nat.le_of_ble_eq_true rfl) (Or.inl rfl) rfl rfl rfl rfl ?_
  refine go_aload_n hC dJ23_init_9 rfl ?_
  refine go_aload_n hC dJ23_init_10 rfl ?_
  refine go_putF hC hI kJ23 hu_eq 1 q1315 dJ23_init_11 (by decide) (Nat.le_of_ble_eq_true rfl) (Or.inl rfl) rfl rfl rfl rfl ?_
  rw [hu_hu]
  refine go_aload_n hC dJ23_init_14 rfl ?_
  refine go_aload_n hC dJ23_init_15 rfl ?_
  refine go_put hC kJ23 hu_eq 2 q1319 dJ23_init_16 (by decide) (Nat.le_of_ble_eq_true rfl) (Or.inl rfl) rfl rfl rfl ?_
  rw [hu_hu]
  refine go_aload_n hC dJ23_init_19 rfl ?_
  refine go_aloadN hC dJ23_init_20 rfl ?_
  refine go_put hC kJ23 hu_eq 3 q1321 dJ23_init_22 (by decide) (Nat.le_of_ble_eq_true rfl) (Or.inl rfl) rfl rfl rfl ?_
  rw [hu_hu]
  refine go_vret hC hF dJ23_init_25 rfl ?_
  exact ⟨rfl, rfl⟩
theorem c_J4_hash (ht : h t = some (o, tgc n)) (hn : n < 64) : CT G yJ4_hash cJ4_hash 2 (some .int) (rmL 2 0 0) [.ref t] h (fun v h' => v = some (.int (nI (hsh n))) ∧ h = h') noX := by
  refine CT_of [some (.ref t), none] (by decide +kernel) rfl (Nat.le_of_ble_eq_true rfl) (fun X hC hF hE => ?_)
  refine go_aload_n hC dJ4_hash_0 rfl ?_
  refine go_ifnonnull hC 8 dJ4_hash_1 (by decide) ?_
  refine go_aload_n hC dJ4_hash_8 rfl ?_
  refine go_callO0 hC (c_X5_hashCode ht) (lw_U q754 q756 q762 q763 q107 q764) q753 ht rfl rfl dJ4_hash_9 0 rfl (by decide +kernel) rfl ⟨Nat.le_of_ble_eq_true rfl, Nat.le_of_ble_eq_true rfl⟩ (Nat.le_of_ble_eq_true rfl) ⟨rfl, rfl⟩ ?_
  rintro _ _ ⟨rfl, rfl⟩
  refine go_dup hC dJ4_hash_12 rfl ?_
  refine go_istore_n hC dJ4_hash_13 (by decide) ?_
  refine go_iload_n hC dJ4_hash_14 rfl ?_
  refine go_bipush hC (nI 16) dJ4_hash_15 (by decide) ?_
  refine go_iushr hC dJ4_hash_17 rfl ?_
  refine go_ixor hC dJ4_hash_18 ?_
  refine go_iret hC hF dJ4_hash_19 rfl rfl ?_
  exact ⟨congrArg some (congrArg Value.int (hsh_xor n hn)), rfl⟩
/-- a map with a table of 2 ^ k places -/
def HMi (G : GT) (h : PH) (r d mp : Nat) (k T : Nat) (f : Nat → Option Nat) (bk : Nat → List Nd) (mc : Int32) (lf : UInt32) (sz : Nat) (M : Nat → Option Nat) : Prop :=
  (4 ≤ k ∧ k ≤ 6) ∧ h mp = some ((r, 2), ob 8 [.null, .null, .ref T, .null, .int (nI sz), .int mc, .int (nI (12 * 2 ^ (k - 4))), .float lf]) ∧ h T = some ((r, 8), oa G 5 (2 ^ k) f) ∧ sz ≤ 12 * 2 ^ (k - 4) ∧
  (∀ i, i < 2 ^ k → chn h r d (bk i) (f i) ∧ (∀ x ∈ bk i, hsh (nN x) % 2 ^ k = i) ∧ ((bk i).map nN).Nodup) ∧ ∀ n, n < 64 → M n = ((bk (hsh n % 2 ^ k)).find? (fun x => nN x == n)).map nV
def HM0 (h : PH) (r mp : Nat) (mc : Int32) (lf : UInt32) (sz : Nat) (M : Nat → Option Nat) : Prop :=
  h mp = some ((r, 2), ob 8 [.null, .null, .null, .null, .int 0, .int mc, .int 0, .float lf]) ∧ sz = 0 ∧ ∀ n, n < 64 → M n = none
/-- a map from numbers to items -/
def HM (G : GT) (h : PH) (r d mp : Nat) (sz : Nat) (M : Nat → Option Nat) : Prop := ∃ (mc : Int32) (lf : UInt32), HM0 h r mp mc lf sz M ∨ ∃ k T f bk, HMi G h r d mp k T f bk mc lf sz M
def Pm (r : Nat) (o : Ow) : Prop := o.1 = r ∧ (o.2 = 2 ∨ o.2 = 8 ∨ 17 ≤ o.2 ∧ o.2 % 2 = 1)
theorem Pm_n (r n : Nat) : Pm r (nL9 r n) := ⟨rfl, Or.inr (Or.inr ⟨by show 17 ≤ 17 + 2 * n; omega, by show (17 + 2 * n) % 2 = 1; omega⟩)⟩
theorem seg_fr {P : Ow → Prop} {h' : PH} (z : fr P h h') (n1 : ¬ P (d, 9)) : ∀ {l : List Nd} {p e : Option Nat}, (∀ x ∈ l, ¬ P (nL9 r (nN x))) → seg h r d l p e → seg h' r d l p e
  | [], p, e, _, hc => hc
  | x :: l, p, e, n2, ⟨e1, hn, ht, nx, ha, hc⟩ => ⟨e1, hn, z _ _ _ ht n1, nx, z _ _ _ ha (n2 x List.mem_cons_self), seg_fr z n1 (fun y hy => n2 y (List.mem_cons_of_mem _ hy)) hc⟩
theorem HM.fr {P : Ow → Prop} {h' : PH} {sz : Nat} {M : Nat → Option Nat} (hM : HM G h r d mp sz M) (z : fr P h h') (n1 : ¬ P (d, 9)) (n2 : ∀ o, Pm r o → ¬ P o) : HM G h' r d mp sz M := by
  obtain ⟨mc, lf, hM⟩ := hM
  refine ⟨mc, lf, ?_⟩
  rcases hM with ⟨g1, g2⟩ | ⟨k, T, f, bk, hk, g1, g2, g3, g4, g5⟩
  · exact Or.inl ⟨z _ _ _ g1 (n2 _ ⟨rfl, Or.inl rfl⟩), g2⟩
  · exact Or.inr ⟨k, T, f, bk, hk, z _ _ _ g1 (n2 _ ⟨rfl, Or.inl rfl⟩), z _ _ _ g2 (n2 _ ⟨rfl, Or.inr (Or.inl rfl)⟩), g3, fun i hi => ⟨seg_fr z n1 (fun x _ => n2 _ (Pm_n r _)) (g4 i hi).1, (g4 i hi).2⟩, g5⟩
theorem c_J4_getNode {sz k T : Nat} {f : Nat → Option Nat} {bk : Nat → List Nd} {mc : Int32} {lf : UInt32} {M : Nat → Option Nat} (hM : HMi G h r d mp k T f bk mc lf sz M) (ht : h t = some ((d, 9), tgc n)) (hn : n < 64) : CT G yJ4_getNode cJ4_getNode 8 (some (.object "java/util/HashMap$Node")) (rmL 3 0 0) [.ref mp, .ref t] h (fun v h' => v = some (vO (((bk (hsh n % 2 ^ k)).find? (fun x => nN x == n)).map nA)) ∧ h = h') noX := by
  obtain ⟨hk, g1, g2, g3, g4, g5⟩ := hM
  have hp : 2 ^ k ≤ 2 ^ 6 := Nat.pow_le_pow_right (by omega) hk.2
  have hp0 : 0 < 2 ^ k := Nat.two_pow_pos k
  have hi := Nat.mod_lt (hsh n) hp0
  have hc := (g4 _ hi).1
  generalize hf : f (hsh n % 2 ^ k) = p at hc
  generalize bk (hsh n % 2 ^ k) = l at hc ⊢
  refine CT_of [some (.ref mp), some (.ref t), none, none, none, none, none, none] (by decide +kernel) rfl (Nat.le_of_ble_eq_true rfl) (fun X hC hF hE => ?_)
  have nul : ∀ (z2 z3 z4 z5 z6 z7 : Option Value), l.find? (fun x => nN x == n) = none → Go X G h 0 0 148 [some (.ref mp), some (.ref t), z2, z3, z4, z5, z6, z7] [] := by
    intro z2 z3 z4 z5 z6 z7 he
    refine go_null hC dJ4_getNode_148 ?_
    refine go_aret hC hF dJ4_getNode_149 rfl (Or.inl ⟨_, rfl⟩) (Or.inl rfl) ?_
    rw [he]
    exact ⟨rfl, rfl⟩
  have loop : ∀ (l1 : List Nd) (x : Nd) (y : Nat) (z7 : Option Value), chn h r d (x :: l1) (some (nA x)) → l.find? (fun x => nN x == n) = (x :: l1).find? (fun x => nN x == n) → Go X G h 0 0 99 [some (.ref mp), some (.ref t), some (.ref T), some (.ref y), some (.ref (nA x)), some (.int (nI (2 ^ k))), some (.int (nI (hsh n))), z7] [] := by
    intro l1
    induction l1 with
    | nil =>
      intro x y z7 hc1 he
      obtain ⟨-, hxn, hxt, nx, hx, hc2⟩ := hc1
      cases hc2
      refine go_aload hC dJ4_getNode_99 rfl ?_
      refine go_get hC kJ23 hx 0 q1314 dJ4_getNode_101 rfl (by decide) (Or.inl rfl) ?_
      refine go_iload hC dJ4_getNode_104 rfl ?_
      refine go_N_ne hC 137 dJ4_getNode_106 (by decide) rfl rfl (hs31 hxn) (hs31 hn) (fun c106 => ?_) (fun c106 => ?_)
      · have hne : (nN x == n) = false := beq_false_of_ne (fun e => c106 (congrArg hsh e))
        refine go_aload hC dJ4_getNode_137 rfl ?_
        refine go_get hC kJ23 hx 3 q1325 dJ4_getNode_139 rfl (by decide) (Or.inl rfl) ?_
        refine go_dup hC dJ4_getNode_142 rfl ?_
        refine go_astoreN hC dJ4_getNode_143 (by decide) ?_
        refine go_ifnonnullN hC dJ4_getNode_145 ?_
        refine go_null hC dJ4_getNode_148 ?_
        refine go_aret hC hF dJ4_getNode_149 rfl (Or.inl ⟨_, rfl⟩) (Or.inl rfl) ?_
        rw [he, List.find?_cons_of_neg (by rw [hne]; decide)]
        exact ⟨rfl, rfl⟩
      · have heq : nN x = n := hs_inj c106
        have he2 : l.find? (fun x => nN x == n) = some x := by rw [he, List.find?_cons_of_pos (by simp [heq])]
        refine go_aload hC dJ4_getNode_109 rfl ?_
        refine go_get hC kJ23 hx 1 q1318 dJ4_getNode_111 rfl (by decide) (Or.inl rfl) ?_
        refine go_dup hC dJ4_getNode_114 rfl ?_
        refine go_astore hC dJ4_getNode_115 (by decide) ?_
        refine go_aload_n hC dJ4_getNode_117 rfl ?_
        refine go_acmp_eq_rr hC 134 dJ4_getNode_118 (by decide) (fun c118 => ?_) (fun c118 => ?_)
        · refine go_aload hC dJ4_getNode_134 rfl ?_
          refine go_aret hC hF dJ4_getNode_136 rfl (Or.inl ⟨_, rfl⟩) (Or.inr ⟨_, rfl⟩) ?_
          rw [he2]
          exact ⟨rfl, rfl⟩
        · refine go_aload_n hC dJ4_getNode_121 rfl ?_
          refine go_ifnull hC dJ4_getNode_122 ?_
          refine go_aload_n hC dJ4_getNode_125 rfl ?_
          refine go_aload hC dJ4_getNode_126 rfl ?_
          refine go_callO0 hC (c_X5_equals ht hxt (by omega) (by omega)) (lw_U q836 q838 q844 q845 q107 q846) q835 ht rfl rfl dJ4_getNode_128 1 rfl (by decide +kernel) rfl ⟨Nat.le_of_ble_eq_true rfl, Nat.le_of_ble_eq_true rfl⟩ (Nat.le_of_ble_eq_true rfl) ⟨rfl, rfl⟩ ?_
          rintro _ _ ⟨rfl, rfl⟩
          refine go_B_eq hC 137 dJ4_getNode_131 (by decide) rfl (fun z => absurd z (by rw [decide_eq_true heq.symm]; decide)) (fun c131 => ?_)
          refine go_aload hC dJ4_getNode_134 rfl ?_
          refine go_aret hC hF dJ4_getNode_136 rfl (Or.inl ⟨_, rfl⟩) (Or.inr ⟨_, rfl⟩) ?_
          rw [he2]
          exact ⟨rfl, rfl⟩
    | cons x2 l2 ih =>
      intro x y z7 hc1 he
      obtain ⟨-, hxn, hxt, nx, hx, hc2⟩ := hc1
      have hnx : nx = some (nA x2) := hc2.1
      subst hnx
      refine go_aload hC dJ4_getNode_99 rfl ?_
      refine go_get hC kJ23 hx 0 q1314 dJ4_getNode_101 rfl (by decide) (Or.inl rfl) ?_
      refine go_iload hC dJ4_getNode_104 rfl ?_
      refine go_N_ne hC 137 dJ4_getNode_106 (by decide) rfl rfl (hs31 hxn) (hs31 hn) (fun c106 => ?_) (fun c106 => ?_)
      · have hne : (nN x == n) = false := beq_false_of_ne (fun e => c106 (congrArg hsh e))
        refine go_aload hC dJ4_getNode_137 rfl ?_
        refine go_get hC kJ23 hx 3 q1325 dJ4_getNode_139 rfl (by decide) (Or.inl rfl) ?_
        refine go_dup hC dJ4_getNode_142 rfl ?_
        refine go_astore hC dJ4_getNode_143 (by decide) ?_
        refine go_ifnonnull hC 99 dJ4_getNode_145 (by decide) ?_
        exact ih x2 y _ hc2 (by rw [he, List.find?_cons_of_neg (by rw [hne]; decide)])
      · have heq : nN x = n := hs_inj c106
        have he2 : l.find? (fun x => nN x == n) = some x := by rw [he, List.find?_cons_of_pos (by simp [heq])]
        refine go_aload hC dJ4_getNode_109 rfl ?_
        refine go_get hC kJ23 hx 1 q1318 dJ4_getNode_111 rfl (by decide) (Or.inl rfl) ?_
        refine go_dup hC dJ4_getNode_114 rfl ?_
        refine go_astore hC dJ4_getNode_115 (by decide) ?_
        refine go_aload_n hC dJ4_getNode_117 rfl ?_
        refine go_acmp_eq_rr hC 134 dJ4_getNode_118 (by decide) (fun c118 => ?_) (fun c118 => ?_)
        · refine go_aload hC dJ4_getNode_134 rfl ?_
          refine go_aret hC hF dJ4_getNode_136 rfl (Or.inl ⟨_, rfl⟩) (Or.inr ⟨_, rfl⟩) ?_
          rw [he2]
          exact ⟨rfl, rfl⟩
        · refine go_aload_n hC dJ4_getNode_121 rfl ?_
          refine go_ifnull hC dJ4_getNode_122 ?_
          refine go_aload_n hC dJ4_getNode_125 rfl ?_
          refine go_aload hC dJ4_getNode_126 rfl ?_
          refine go_callO0 hC (c_X5_equals ht hxt (by omega) (by omega)) (lw_U q836 q838 q844 q845 q107 q846) q835 ht rfl rfl dJ4_getNode_128 1 rfl (by decide +kernel) rfl ⟨Nat.le_of_ble_eq_true rfl, Nat.le_of_ble_eq_true rfl⟩ (Nat.le_of_ble_eq_true rfl) ⟨rfl, rfl⟩ ?_
          rintro _ _ ⟨rfl, rfl⟩
          refine go_B_eq hC 137 dJ4_getNode_131 (by decide) rfl (fun z => absurd z (by rw [decide_eq_true heq.symm]; decide)) (fun c131 => ?_)
          refine go_aload hC dJ4_getNode_134 rfl ?_
          refine go_aret hC hF dJ4_getNode_136 rfl (Or.inl ⟨_, rfl⟩) (Or.inr ⟨_, rfl⟩) ?_
          rw [he2]
          exact ⟨rfl, rfl⟩
  have hfe : f (hsh n % 2 ^ k) = p := hf
  refine go_aload_n hC dJ4_getNode_0 rfl ?_
  refine go_get hC kJ4 g1 2 q162 dJ4_getNode_1 rfl (by decide) (Or.inl rfl) ?_
  refine go_dup hC dJ4_getNode_4 rfl ?_
  refine go_astore_n hC dJ4_getNode_5 (by decide) ?_
  refine go_ifnull hC dJ4_getNode_6 ?_
  refine go_aload_n hC dJ4_getNode_9 rfl ?_
  refine go_alen hC g2 rfl dJ4_getNode_10 ?_
  refine go_dup hC dJ4_getNode_11 rfl ?_
  refine go_istore hC dJ4_getNode_12 (by decide) ?_
  refine go_if_le hC 148 dJ4_getNode_14 (by decide) (fun z => absurd z (nI_nle hp0 (by omega))) (fun _ => ?_)
  refine go_aload_n hC dJ4_getNode_17 rfl ?_
  refine go_iload hC dJ4_getNode_18 rfl ?_
  refine go_iconst hC (1) dJ4_getNode_20 (by decide) ?_
  refine go_isub hC dJ4_getNode_21 ?_
  refine go_aload_n hC dJ4_getNode_22 rfl ?_
  refine go_callS0 hC (c_J4_hash ht hn) (lw_S q750 q751 q78 q752) dJ4_getNode_23 1 rfl (by decide +kernel) rfl ⟨Nat.le_of_ble_eq_true rfl, Nat.le_of_ble_eq_true rfl⟩ (Nat.le_of_ble_eq_true rfl) ⟨rfl, rfl⟩ ?_
  rintro _ _ ⟨rfl, rfl⟩
  refine go_dup hC dJ4_getNode_26 rfl ?_
  refine go_istore hC dJ4_getNode_27 (by decide) ?_
  refine go_iand hC dJ4_getNode_29 ?_
  rw [hsh_ix hk.2 hn]
  cases l with
  | nil =>
    have hpn : p = none := hc
    subst hpn
    refine go_aaldN hC (hsh n % 2 ^ k) g2 rfl dJ4_getNode_30 (by first | rfl | (simp only [nI_add, pk_mul, nI_1, Int32.add_zero]; done) | (simp only [nI_add, pk_mul, nI_1, Int32.add_zero]; exact congrArg nI (by omega))) (by omega) (by omega) hfe ?_
    refine go_dup hC dJ4_getNode_31 rfl ?_
    refine go_astore_nN hC dJ4_getNode_32 (by decide) ?_
    refine go_ifnullN hC 148 dJ4_getNode_33 (by decide) ?_
    exact nul _ _ _ _ _ _ rfl
  | cons x l1 =>
    obtain ⟨hpx, hxn, hxt, nx, hx, hc2⟩ := hc
    subst hpx
    have tl : l1.find? (fun x => nN x == n) = (x :: l1).find? (fun x => nN x == n) → Go X G h 0 0 71 [some (.ref mp), some (.ref t), some (.ref T), some (.ref (nA x)), none, some (.int (nI (2 ^ k))), some (.int (nI (hsh n))), none] [] := by
      intro he
      cases l1 with
      | nil =>
        cases hc2
        refine go_aload_n hC dJ4_getNode_71 rfl ?_
        refine go_get hC kJ23 hx 3 q1325 dJ4_getNode_72 rfl (by decide) (Or.inl rfl) ?_
        refine go_dup hC dJ4_getNode_75 rfl ?_
        refine go_astoreN hC dJ4_getNode_76 (by decide) ?_
        refine go_ifnullN hC 148 dJ4_getNode_78 (by decide) ?_
        exact nul _ _ _ _ _ _ (by rw [← he]; rfl)
      | cons x2 l2 =>
        have hnx : nx = some (nA x2) := hc2.1
        subst hnx
        refine go_aload_n hC dJ4_getNode_71 rfl ?_
        refine go_get hC kJ23 hx 3 q1325 dJ4_getNode_72 rfl (by decide) (Or.inl rfl) ?_
        refine go_dup hC dJ4_getNode_75 rfl ?_
        refine go_astore hC dJ4_getNode_76 (by decide) ?_
        refine go_ifnull hC dJ4_getNode_78 ?_
        refine go_aload_n hC dJ4_getNode_81 rfl ?_
        refine go_instNo hC hx rfl q865 hC.2.2.2.2.2.1.2.2.2.1.1 dJ4_getNode_82 ?_
        refine go_if_eq hC 99 dJ4_getNode_85 (by decide) (fun _ => ?_) (fun z => absurd rfl z)
        exact loop l2 x2 _ _ hc2 he.symm
    refine go_aald hC (hsh n % 2 ^ k) g2 rfl dJ4_getNode_30 (by first | rfl | (simp only [nI_add, pk_mul, nI_1, Int32.add_zero]; done) | (simp only [nI_add, pk_mul, nI_1, Int32.add_zero]; exact congrArg nI (by omega))) (by omega) (by omega) hfe ?_
    refine go_dup hC dJ4_getNode_31 rfl ?_
    refine go_astore_n hC dJ4_getNode_32 (by decide) ?_
    refine go_ifnull hC dJ4_getNode_33 ?_
    refine go_aload_n hC dJ4_getNode_36 rfl ?_
    refine go_get hC kJ23 hx 0 q1314 dJ4_getNode_37 rfl (by decide) (Or.inl rfl) ?_
    refine go_iload hC dJ4_getNode_40 rfl ?_
    refine go_N_ne hC 71 dJ4_getNode_42 (by decide) rfl rfl (hs31 hxn) (hs31 hn) (fun c42 => ?_) (fun c42 => ?_)
    · have hne : (nN x == n) = false := beq_false_of_ne (fun e => c42 (congrArg hsh e))
      exact tl (by rw [List.find?_cons_of_neg (by rw [hne]; decide)])
    · have heq : nN x = n := hs_inj c42
      have he2 : (x :: l1).find? (fun x => nN x == n) = some x := by rw [List.find?_cons_of_pos (by simp [heq])]
      refine go_aload_n hC dJ4_getNode_45 rfl ?_
      refine go_get hC kJ23 hx 1 q1318 dJ4_getNode_46 rfl (by decide) (Or.inl rfl) ?_
      refine go_dup hC dJ4_getNode_49 rfl ?_
      refine go_astore hC dJ4_getNode_50 (by decide) ?_
      refine go_aload_n hC dJ4_getNode_52 rfl ?_
      refine go_acmp_eq_rr hC 69 dJ4_getNode_53 (by decide) (fun c53 => ?_) (fun c53 => ?_)
      · refine go_aload_n hC dJ4_getNode_69 rfl ?_
        refine go_aret hC hF dJ4_getNode_70 rfl (Or.inl ⟨_, rfl⟩) (Or.inr ⟨_, rfl⟩) ?_
        rw [he2]
        exact ⟨rfl, rfl⟩
      · refine go_aload_n hC dJ4_getNode_56 rfl ?_
        refine go_ifnull hC dJ4_getNode_57 ?_
        refine go_aload_n hC dJ4_getNode_60 rfl ?_
        refine go_aload hC dJ4_getNode_61 rfl ?_
        refine go_callO0 hC (c_X5_equals ht hxt (by omega) (by omega)) (lw_U q836 q838 q844 q845 q107 q846) q835 ht rfl rfl dJ4_getNode_63 1 rfl (by decide +kernel) rfl ⟨Nat.le_of_ble_eq_true rfl, Nat.le_of_ble_eq_true rfl⟩ (Nat.le_of_ble_eq_true rfl) ⟨rfl, rfl⟩ ?_
        rintro _ _ ⟨rfl, rfl⟩
        refine go_B_eq hC 71 dJ4_getNode_66 (by decide) rfl (fun z => absurd z (by rw [decide_eq_true heq.symm]; decide)) (fun c66 => ?_)
        refine go_aload_n hC dJ4_getNode_69 rfl ?_
        refine go_aret hC hF dJ4_getNode_70 rfl (Or.inl ⟨_, rfl⟩) (Or.inr ⟨_, rfl⟩) ?_
        rw [he2]
        exact ⟨rfl, rfl⟩
end TG
