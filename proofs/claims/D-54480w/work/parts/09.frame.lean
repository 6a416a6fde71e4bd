/-! THE FRAME: a pure heap (addresses to cells, each with an owner's label), the state of a walk over it (Go), contracts over it (CT) -/
set_option maxRecDepth 100000
abbrev Ow : Type := Nat × Nat
abbrev PH : Type := Nat → Option (Ow × va_E)
def hu (h : PH) (a : Nat) (o : Ow) (e : va_E) : PH := fun q => if q = a then some (o, e) else h q
theorem hu_eq {h : PH} {a : Nat} {o : Ow} {e : va_E} : hu h a o e a = some (o, e) := if_pos rfl
theorem hu_ne {h : PH} {a b : Nat} {o : Ow} {e : va_E} (n : b ≠ a) : hu h a o e b = h b := if_neg n
abbrev GT : Type := Launch × Nat × va_G × (Nat → ClassId) × (Nat → Nat)
abbrev gl (G : GT) : Launch := G.1
abbrev gb (G : GT) : Nat := G.2.1
abbrev gD (G : GT) : va_G := G.2.2.1
abbrev gA (G : GT) : Nat → ClassId := G.2.2.2.1
abbrev gS (G : GT) : Nat → Nat := G.2.2.2.2
/-- the classes by number: 0 DrawerRing, 1 Ring, 2 Item, 3 Tag, 4 Reader, 5 Batch, 6 Model, 7 ArrayList, 8 HashMap, 9 Node, 10 StringBuilder -/
abbrev gcl : List vw_C := [(RX1, TX1, 5), (RX2, TX2, 11), (RX4, TX4, 3), (RX5, TX5, 1), (RX6, TX6, 3), (RX7, TX7, 4), (RX3, TX3, 16), (RJ2, TJ2, 3), (RJ4, TJ4, 8), (RJ23, TJ23, 4), (RJ6, TJ6, 4)]
/-- the arrays by number: 0 int, 1 boolean, 2 byte, 3 long, 4 Object, 5 Node, 6 Item -/
abbrev gtys (G : GT) : List (ClassId × FieldType) := [(gA G 0, .int), (gA G 1, .boolean), (gA G 2, .byte), (gA G 3, .long), (gA G 4, .object "java/lang/Object"), (gA G 5, .object "java/util/HashMap$Node"), (gA G 6, .object "DrawerRing$Item")]
def gF (G : GT) : Nat → Prop := fun q => gb G ≤ q
def pR (G : GT) (h : PH) (H : Heap) : Prop := ∀ (a : Nat) (o : Ow) (e : va_E), h a = some (o, e) → gb G ≤ a ∧ va_at (gD G) gcl (a, e) H
abbrev ia (G : GT) (n : Nat) (f : Nat → Int32) : va_E := .inl (gA G 0, n, .inl f)
abbrev za (G : GT) (n : Nat) (f : Nat → Int32) : va_E := .inl (gA G 1, n, .inl f)
abbrev ba (G : GT) (n : Nat) (f : Nat → Int32) : va_E := .inl (gA G 2, n, .inl f)
abbrev ja (G : GT) (n : Nat) (f : Nat → Int64) : va_E := .inl (gA G 3, n, .inr (.inl f))
abbrev oa (G : GT) (t : Nat) (n : Nat) (f : Nat → Option Nat) : va_E := .inl (gA G t, n, .inr (.inr (.inr (.inr f))))
abbrev ob (ci : Nat) (fs : List Value) : va_E := .inr (ci, fs)
theorem pR.lt {G : GT} {h : PH} {H : Heap} (hR : pR G h H) {a : Nat} {o : Ow} {e : va_E} (ha : h a = some (o, e)) : a < H.size := (hR a o e ha).2.lt
theorem pR.fresh {G : GT} {h : PH} {H : Heap} (hR : pR G h H) {a : Nat} (ha : H.size ≤ a) : h a = none := by
  cases e : h a with
  | none => rfl
  | some q => exact absurd (hR.lt (o := q.1) (e := q.2) e) (Nat.not_lt.mpr ha)
/-- the pure heap as a list of the kit's -/
def lw (h : PH) (n : Nat) : va_W := (List.range n).filterMap (fun q => (h q).map (fun e => (q, e.2)))
theorem lw_mem {h : PH} {n a : Nat} {e : va_E} : (a, e) ∈ lw h n ↔ a < n ∧ ∃ o, h a = some (o, e) := by
  unfold lw
  rw [List.mem_filterMap]
  constructor
  · rintro ⟨q, hq, e1⟩
    cases hh : h q with
    | none => rw [hh] at e1; cases e1
    | some w =>
      rw [hh] at e1
      cases e1
      exact ⟨List.mem_range.mp hq, w.1, hh⟩
  · rintro ⟨h1, o, h2⟩
    exact ⟨a, List.mem_range.mpr h1, by rw [h2]; rfl⟩
theorem lw_pw (h : PH) (n : Nat) : (lw h n).Pairwise (fun x y => x.1 < y.1) := by
  unfold lw
  refine List.Pairwise.filterMap _ ?_ (List.pairwise_lt_range (n := n))
  intro a a' hlt b hb b' hb'
  cases h1 : h a with
  | none => rw [h1] at hb; cases hb
  | some w =>
    cases h2 : h a' with
    | none => rw [h2] at hb'; cases hb'
    | some w' =>
      rw [h1] at hb
      rw [h2] at hb'
      cases hb
      cases hb'
      exact hlt
theorem pw_inj {l : va_W} (hp : l.Pairwise (fun x y => x.1 < y.1)) {i j : Nat} {x y : Nat × va_E} (hi : l[i]? = some x) (hj : l[j]? = some y) (e : x.1 = y.1) : i = j := by
  obtain ⟨li, ei⟩ := List.getElem?_eq_some_iff.mp hi
  obtain ⟨lj, ej⟩ := List.getElem?_eq_some_iff.mp hj
  rcases Nat.lt_trichotomy i j with q | q | q
  · have := List.pairwise_iff_getElem.mp hp i j li lj q
    rw [ei, ej] at this
    omega
  · exact q
  · have := List.pairwise_iff_getElem.mp hp j i lj li q
    rw [ei, ej] at this
    omega
theorem pR.P {G : GT} {h : PH} {H : Heap} (hR : pR G h H) : va_P (gD G) gcl (lw h H.size) H := by
  intro k q hk
  obtain ⟨-, o, h1⟩ := lw_mem.mp (List.mem_of_getElem? (show (lw h H.size)[k]? = some (q.1, q.2) from hk))
  exact (hR _ _ _ h1).2
theorem pR.D {G : GT} {h : PH} {H : Heap} (hR : pR G h H) : va_D (gF G) (lw h H.size) := by
  refine ⟨fun i j x y hi hj e => pw_inj (lw_pw h H.size) hi hj e, fun k q hk => ?_⟩
  obtain ⟨-, o, h1⟩ := lw_mem.mp (List.mem_of_getElem? (show (lw h H.size)[k]? = some (q.1, q.2) from hk))
  exact (hR _ _ _ h1).1
theorem pR.ix {G : GT} {h : PH} {H : Heap} (hR : pR G h H) {a : Nat} {o : Ow} {e : va_E} (ha : h a = some (o, e)) : ∃ k : Nat, (lw h H.size)[k]? = some (a, e) :=
  List.getElem?_of_mem (lw_mem.mpr ⟨hR.lt ha, o, ha⟩)
theorem pR.set {G : GT} {h : PH} {H H1 : Heap} (hR : pR G h H) {k a : Nat} {o : Ow} {e e' : va_E} (ha : h a = some (o, e)) (hk : (lw h H.size)[k]? = some (a, e)) (hP : va_P (gD G) gcl ((lw h H.size).set k (a, e')) H1) : pR G (hu h a o e') H1 := by
  have hl := (List.getElem?_eq_some_iff.mp hk).1
  intro b o2 e2 hb
  by_cases hba : b = a
  · subst hba
    rw [hu_eq] at hb
    cases hb
    exact ⟨(hR _ _ _ ha).1, hP k _ (by rw [List.getElem?_set_self hl])⟩
  · rw [hu_ne hba] at hb
    obtain ⟨j, hj⟩ := hR.ix hb
    have hjk : j ≠ k := by
      intro z
      subst z
      rw [hk] at hj
      cases hj
      exact hba rfl
    exact ⟨(hR _ _ _ hb).1, hP j _ (by rw [List.getElem?_set_ne (Ne.symm hjk)]; exact hj)⟩
theorem pR.push {G : GT} {h : PH} {H H1 : Heap} (hR : pR G h H) {q : Nat} {e : va_E} (o : Ow) (hP : va_P (gD G) gcl (lw h H.size ++ [(q, e)]) H1) (hD : va_D (gF G) (lw h H.size ++ [(q, e)])) : h q = none ∧ gb G ≤ q ∧ pR G (hu h q o e) H1 := by
  have hlast : (lw h H.size ++ [(q, e)])[(lw h H.size).length]? = some (q, e) := by simp
  have hA : gb G ≤ q := hD.2 _ _ hlast
  have hn : h q = none := by
    cases hh : h q with
    | none => rfl
    | some w =>
      obtain ⟨k, hk⟩ := hR.ix (o := w.1) (e := w.2) hh
      have hkl := (List.getElem?_eq_some_iff.mp hk).1
      have hk' : (lw h H.size ++ [(q, e)])[k]? = some (q, w.2) := by rw [List.getElem?_append_left hkl]; exact hk
      have := hD.1 _ _ _ _ hk' hlast rfl
      omega
  refine ⟨hn, hA, fun b o2 e2 hb => ?_⟩
  by_cases hba : b = q
  · subst hba
    rw [hu_eq] at hb
    cases hb
    exact ⟨hA, hP _ _ hlast⟩
  · rw [hu_ne hba] at hb
    obtain ⟨j, hj⟩ := hR.ix hb
    have hjl := (List.getElem?_eq_some_iff.mp hj).1
    exact ⟨(hR _ _ _ hb).1, hP j _ (by rw [List.getElem?_append_left hjl]; exact hj)⟩
theorem pR.recv {G : GT} {h : PH} {H : Heap} {s : State} (hR : pR G h H) (hK : va_K (gD G) gcl (gtys G) s) {a ci : Nat} {o : Ow} {fs : List Value} {q : vw_C} (ha : h a = some (o, ob ci fs)) (hc : gcl[ci]? = some q) : ∃ cell : Cell, H[a]? = some cell ∧ cell.vm.isStatics = false ∧ s.vm.findClass q.1 = some cell.cls := by
  obtain ⟨k, hk⟩ := hR.ix ha
  exact va_recv hK hR.P hc hk
/-- words of the tables that don't ride in the lists -/
def xw (w : Cond) : Bool := match w with
  | .fieldLinkNest _ _ _ _ _ _ => true
  | .methodLinkNest _ _ _ _ => true
  | .castable _ _ => true
  | .declares _ => true
  | .privateMethod _ => true
  | _ => false
theorem xw_warmP {s U : State} {x : MethodName} (hW : s.WarmedH U.vm) (h : va_Nw (.privateMethod x) s) : va_Nw (.privateMethod x) U := by
  have h1 : (Cond.privateMethod x).before #[] (s.setVm U.vm) = true := by
    rw [Cond.privateMethod_setVm hW.alike]
    exact h
  have e := Cond.onTables_vm (A := #[]) (A' := #[]) (U := s) (U' := U) U.vm (Cond.privateMethod x) rfl
  have hU : U.setVm U.vm = U := rfl
  rw [hU] at e
  show (Cond.privateMethod x).before #[] U = true
  rw [← e]
  exact h1
theorem xw_warm {w : Cond} (hx : xw w = true) {s U : State} (hW : s.WarmedH U.vm) (h : va_Nw w s) : va_Nw w U := by
  cases w with
  | fieldLinkNest a i b n d h9 => exact va_Nw.warmF hW h
  | methodLinkNest a i x h9 => exact va_Nw.warmM hW h
  | castable a b => exact va_Nw.warmC hW h
  | declares x => exact va_Nw.warmD hW h
  | privateMethod x => exact xw_warmP hW h
  | _ => cases hx
def f_least : Nat → Value := fun j => .int (if j = 1 then 10 else 0)
def f_most : Nat → Value := fun j => .int (if j = 0 then 300 else if j = 1 then 100 else 2)
/-- the static SIOOBE_FORMATTER -/
def fmvG (G : GT) : Value := if gS G 5 = 0 then .null else .ref (gS G 4)
/-- what the run knows of statics -/
def KS (G : GT) (U : State) (H : Heap) : Prop :=
  va_Z "java/util/ArrayList" "DEFAULTCAPACITY_EMPTY_ELEMENTDATA" "[Ljava/lang/Object;" (.ref (gS G 0)) (gF G) U H ∧
  va_T (.object "java/lang/Object") (gS G 0) 0 (fun _ => .null) (gF G) U H ∧
  va_Z "DrawerRing" "LEAST" "[I" (.ref (gS G 1)) (gF G) U H ∧ va_T .int (gS G 1) 3 f_least (gF G) U H ∧
  va_Z "DrawerRing" "MOST" "[I" (.ref (gS G 2)) (gF G) U H ∧ va_T .int (gS G 2) 3 f_most (gF G) U H ∧
  va_Z "java/lang/String" "COMPACT_STRINGS" "Z" (.int 1) (gF G) U H ∧
  vx_Zq Bundle.tN "UNASSIGNED_STACK" Bundle.steD (gF G) U H ∧ vx_Zq Bundle.tN "SUPPRESSED_SENTINEL" Bundle.listD (gF G) U H ∧ va_Z "jdk/internal/util/Preconditions" "SIOOBE_FORMATTER" "Ljava/util/function/BiFunction;" (fmvG G) (gF G) U H
theorem KS.moved {G : GT} {u U : State} {H : Heap} (hvm : u.vm.Alike U.vm) (h : KS G u H) : KS G U H := by
  obtain ⟨h1, h2, h3, h4, h5, h6, h7, h8, h9, h10⟩ := h
  exact ⟨h1.moved hvm, h2.moved hvm, h3.moved hvm, h4.moved hvm, h5.moved hvm, h6.moved hvm, h7.moved hvm, h8.moved hvm, h9.moved hvm, h10.moved hvm⟩
theorem KS.kept {G : GT} {U : State} {H H1 : Heap} (h : KS G U H) (hq : ∀ a : Nat, a < H.size → ¬ gF G a → H1[a]? = H[a]?) : KS G U H1 := by
  obtain ⟨h1, h2, h3, h4, h5, h6, h7, h8, h9, h10⟩ := h
  exact ⟨h1.kept hq, h2.kept hq, h3.kept hq, h4.kept hq, h5.kept hq, h6.kept hq, h7.kept hq, h8.kept hq, h9.kept hq, h10.kept hq⟩
def KN (G : GT) (U : State) : Prop :=
  va_K (gD G) gcl (gtys G) U ∧ (∀ w ∈ lw_tbl, xw w = true → va_Nw w U) ∧ (va_AO "java/lang/Object" U ∧ va_AO "java/util/HashMap$Node" U ∧ va_AO "DrawerRing$Item" U) ∧
  (va_Nc "java/util/HashMap$Node" "java/util/HashMap$TreeNode" U ∧ va_Nc "java/lang/IllegalArgumentException" "java/lang/IndexOutOfBoundsException" U ∧ va_Nc "java/lang/IllegalStateException" "java/lang/IndexOutOfBoundsException" U ∧ va_Nc "java/lang/IllegalStateException" "java/lang/IllegalArgumentException" U ∧ va_Mi "[Ljava/lang/Object;" (gS G 3) U) ∧ KS G U U.heap
theorem KN.call {G : GT} {s U : State} {H : Heap} {locs : List Loc} (h : KN G s) (hS : va_S (gF G) s.heap H locs) (hU : U.heap = H) (hW : s.WarmedH U.vm) : KN G U := by
  obtain ⟨h1, h2, ⟨a1, a2, a3⟩, ⟨c1, c2, c3, c4, c5⟩, h5⟩ := h
  exact ⟨va_K.moved hW.alike h1, fun w hw hx => xw_warm hx hW (h2 w hw hx), ⟨a1.moved hW.alike, a2.moved hW.alike, a3.moved hW.alike⟩, ⟨c1.moved hW.alike, c2.moved hW.alike, c3.moved hW.alike, c4.moved hW.alike, c5.moved hW.alike⟩, by rw [hU]; exact (h5.moved hW.alike).kept hS.2.1⟩
theorem KN.blind {G : GT} {U : State} {g : JFrame} {mk : MethodId} {a : Array Value} (h : KN G U) : KN G (U.calling g mk a) := by
  obtain ⟨h1, h2, ⟨a1, a2, a3⟩, ⟨c1, c2, c3, c4, c5⟩, h5⟩ := h
  have hv : U.vm.Alike (U.calling g mk a).vm := Vm.Alike.refl U.vm
  refine ⟨va_K.moved hv h1, fun w hw hx => ?_, ⟨a1.moved hv, a2.moved hv, a3.moved hv⟩, ⟨c1.moved hv, c2.moved hv, c3.moved hv, c4.moved hv, c5.moved hv⟩, h5.moved hv⟩
  refine va_Nw.same ?_ (rfl : U.vm = (U.calling g mk a).vm) (h2 w hw hx)
  cases w <;> first | rfl | cases hx
def bI (b : Bool) : Int32 := bif b then 1 else 0
/-! locals: a list by places -/
def las : Nat → List (Option Value) → List (Nat × Value)
  | _, [] => []
  | i, none :: r => las (i + 1) r
  | i, some v :: r => (i, v) :: las (i + 1) r
theorem mem_las {j : Nat} {v : Value} : ∀ {lv : List (Option Value)} {i : Nat}, (j, v) ∈ las i lv ↔ i ≤ j ∧ lv[j - i]? = some (some v)
  | [], i => by simp [las]
  | none :: r, i => by
    rw [las, mem_las (lv := r)]
    constructor
    · rintro ⟨h1, h2⟩
      exact ⟨by omega, by rw [show j - i = (j - (i + 1)) + 1 by omega, List.getElem?_cons_succ]; exact h2⟩
    · rintro ⟨h1, h2⟩
      rcases Nat.lt_or_ge i j with q | q
      · refine ⟨q, ?_⟩
        rw [show j - i = (j - (i + 1)) + 1 by omega, List.getElem?_cons_succ] at h2
        exact h2
      · rw [show j - i = 0 by omega, List.getElem?_cons_zero] at h2
        cases h2
  | some w :: r, i => by
    rw [las, List.mem_cons, mem_las (lv := r)]
    constructor
    · rintro (h1 | ⟨h1, h2⟩)
      · cases h1
        exact ⟨Nat.le_refl _, by rw [Nat.sub_self]; rfl⟩
      · exact ⟨by omega, by rw [show j - i = (j - (i + 1)) + 1 by omega, List.getElem?_cons_succ]; exact h2⟩
    · rintro ⟨h1, h2⟩
      rcases Nat.lt_or_ge i j with q | q
      · refine Or.inr ⟨q, ?_⟩
        rw [show j - i = (j - (i + 1)) + 1 by omega, List.getElem?_cons_succ] at h2
        exact h2
      · have hj : j = i := by omega
        subst hj
        rw [Nat.sub_self, List.getElem?_cons_zero] at h2
        cases h2
        exact Or.inl rfl
theorem mem_las0 {j : Nat} {v : Value} {lv : List (Option Value)} : (j, v) ∈ las 0 lv ↔ lv[j]? = some (some v) := by
  rw [mem_las]; simp
theorem lv_mono {ls : Array Slot} {nL : Nat} {l l' : List (Nat × Value)} (h : lv_has ls nL l) (hs : ∀ q ∈ l', q ∈ l) : lv_has ls nL l' := ⟨h.1, h.2.1, fun q hq => h.2.2 q (hs q hq)⟩
theorem las_at {ls : Array Slot} {nL : Nat} {lv : List (Option Value)} (h : lv_has ls nL (las 0 lv)) {i : Nat} {v : Value} (hi : lv[i]? = some (some v)) : ls[i]? = some (.val v) := h.2.2 (i, v) (mem_las0.mpr hi)
def cat2 : Option Value → Bool
  | some (.long _) => true
  | some (.double _) => true
  | _ => false
/-- store one word at a place -/
def ls1 : List (Option Value) → Nat → Value → List (Option Value)
  | [], _, _ => []
  | _ :: r, 0, v => some v :: r
  | x :: r, i + 1, v => (bif (i == 0 && cat2 x) then none else x) :: ls1 r i v
theorem ls1_get {v w : Value} : ∀ {lv : List (Option Value)} {i j : Nat}, (ls1 lv i v)[j]? = some (some w) → (j = i ∧ w = v) ∨ (j ≠ i ∧ lv[j]? = some (some w) ∧ ¬ (j + 1 = i ∧ cat2 (some w) = true))
  | [], i, j, h => by simp [ls1] at h
  | x :: r, 0, j, h => by
    cases j with
    | zero => rw [ls1, List.getElem?_cons_zero] at h; cases h; exact Or.inl ⟨rfl, rfl⟩
    | succ j => rw [ls1, List.getElem?_cons_succ] at h; exact Or.inr ⟨by omega, by rw [List.getElem?_cons_succ]; exact h, fun z => by omega⟩
  | x :: r, i + 1, j, h => by
    cases j with
    | zero =>
      rw [ls1, List.getElem?_cons_zero] at h
      refine Or.inr ⟨by omega, ?_, ?_⟩
      · cases hb : (i == 0 && cat2 x) with
        | true => rw [hb] at h; cases h
        | false => rw [hb] at h; exact h
      · rintro ⟨z1, z2⟩
        have hi : i = 0 := by omega
        subst hi
        cases hb : cat2 x with
        | true => rw [hb] at h; cases h
        | false =>
          rw [hb] at h
          have : x = some w := Option.some.inj h
          rw [this, z2] at hb
          cases hb
    | succ j =>
      rw [ls1, List.getElem?_cons_succ] at h
      rcases ls1_get h with ⟨h1, h2⟩ | ⟨h1, h2, h3⟩
      · exact Or.inl ⟨by omega, h2⟩
      · exact Or.inr ⟨by omega, by rw [List.getElem?_cons_succ]; exact h2, fun z => h3 ⟨by omega, z.2⟩⟩
theorem cat2_cat {w : Value} (h : ¬ cat2 (some w) = true) : ¬ w.category = 2 := by
  cases w <;> simp [cat2, Value.category] at h ⊢
theorem ls1_has {ls : Array Slot} {nL i : Nat} {v : Value} {lv : List (Option Value)} (h : lv_has ls nL ((i, v) :: (las 0 lv).filter (fun q => !(q.1 == i) && !(q.1 + 1 == i && q.2.category == 2)))) : lv_has ls nL (las 0 (ls1 lv i v)) := by
  refine lv_mono h ?_
  rintro ⟨j, w⟩ hq
  rcases ls1_get (mem_las0.mp hq) with ⟨rfl, rfl⟩ | ⟨h1, h2, h3⟩
  · exact List.mem_cons_self
  · refine List.mem_cons_of_mem _ (List.mem_filter.mpr ⟨mem_las0.mpr h2, ?_⟩)
    have hj : (j == i) = false := by simpa using h1
    by_cases hz : j + 1 = i
    · have hc : ¬ w.category = 2 := cat2_cat (fun z => h3 ⟨hz, z⟩)
      simp [h1, hc]
    · simp [h1, hz]
/-- store two words at a place -/
def ls2 : List (Option Value) → Nat → Value → List (Option Value)
  | [], _, _ => []
  | [_], 0, v => [some v]
  | _ :: _ :: r, 0, v => some v :: none :: r
  | x :: r, i + 1, v => (bif (i == 0 && cat2 x) then none else x) :: ls2 r i v
theorem ls2_get {v w : Value} : ∀ {lv : List (Option Value)} {i j : Nat}, (ls2 lv i v)[j]? = some (some w) → (j = i ∧ w = v) ∨ (j ≠ i ∧ j ≠ i + 1 ∧ lv[j]? = some (some w) ∧ ¬ (j + 1 = i ∧ cat2 (some w) = true))
  | [], i, j, h => by simp [ls2] at h
  | [x], 0, j, h => by
    cases j with
    | zero => rw [ls2, List.getElem?_cons_zero] at h; cases h; exact Or.inl ⟨rfl, rfl⟩
    | succ j => simp [ls2] at h
  | x :: y :: r, 0, j, h => by
    match j, h with
    | 0, h => rw [ls2, List.getElem?_cons_zero] at h; cases h; exact Or.inl ⟨rfl, rfl⟩
    | 1, h => rw [ls2, List.getElem?_cons_succ, List.getElem?_cons_zero] at h; cases h
    | j + 2, h =>
      rw [ls2, List.getElem?_cons_succ, List.getElem?_cons_succ] at h
      exact Or.inr ⟨by omega, by omega, by rw [List.getElem?_cons_succ, List.getElem?_cons_succ]; exact h, fun z => by omega⟩
  | x :: r, i + 1, j, h => by
    have hu : ls2 (x :: r) (i + 1) v = (bif (i == 0 && cat2 x) then none else x) :: ls2 r i v := by cases r <;> rfl
    rw [hu] at h
    cases j with
    | zero =>
      rw [List.getElem?_cons_zero] at h
      refine Or.inr ⟨by omega, by omega, ?_, ?_⟩
      · cases hb : (i == 0 && cat2 x) with
        | true => rw [hb] at h; cases h
        | false => rw [hb] at h; exact h
      · rintro ⟨z1, z2⟩
        have hi : i = 0 := by omega
        subst hi
        cases hb : cat2 x with
        | true => rw [hb] at h; cases h
        | false =>
          rw [hb] at h
          have : x = some w := Option.some.inj h
          rw [this, z2] at hb
          cases hb
    | succ j =>
      rw [List.getElem?_cons_succ] at h
      rcases ls2_get h with ⟨h1, h2⟩ | ⟨h1, h1', h2, h3⟩
      · exact Or.inl ⟨by omega, h2⟩
      · exact Or.inr ⟨by omega, by omega, by rw [List.getElem?_cons_succ]; exact h2, fun z => h3 ⟨by omega, z.2⟩⟩
theorem ls2_has {ls : Array Slot} {nL i : Nat} {v : Value} {lv : List (Option Value)} (h : lv_has ls nL ((i, v) :: (las 0 lv).filter (fun q => !(q.1 == i) && (!(q.1 == i + 1) && !(q.1 + 1 == i && q.2.category == 2))))) : lv_has ls nL (las 0 (ls2 lv i v)) := by
  refine lv_mono h ?_
  rintro ⟨j, w⟩ hq
  rcases ls2_get (mem_las0.mp hq) with ⟨rfl, rfl⟩ | ⟨h1, h1', h2, h3⟩
  · exact List.mem_cons_self
  · refine List.mem_cons_of_mem _ (List.mem_filter.mpr ⟨mem_las0.mpr h2, ?_⟩)
    by_cases hz : j + 1 = i
    · have hc : ¬ w.category = 2 := cat2_cat (fun z => h3 ⟨hz, z⟩)
      simp [h1, h1', hc]
    · simp [h1, h1', hz]
/-! the state of a walk -/
abbrev Cx : Type := Program × Env × Room × State × MethodId × Array Value × List Frame × Method × Code × (State → Prop)
abbrev xp (X : Cx) : Program := X.1
abbrev xe (X : Cx) : Env := X.2.1
abbrev xR (X : Cx) : Room := X.2.2.1
abbrev xs (X : Cx) : State := X.2.2.2.1
abbrev xm (X : Cx) : MethodId := X.2.2.2.2.1
abbrev xa (X : Cx) : Array Value := X.2.2.2.2.2.1
abbrev xb (X : Cx) : List Frame := X.2.2.2.2.2.2.1
abbrev xme (X : Cx) : Method := X.2.2.2.2.2.2.2.1
abbrev xc (X : Cx) : Code := X.2.2.2.2.2.2.2.2.1
abbrev xq (X : Cx) : State → Prop := X.2.2.2.2.2.2.2.2.2
/-- k cells and n slots may still be made; the machine goes on from pc with these locals and this stack, over this heap -/
def Go (X : Cx) (G : GT) (h : PH) (k n pc : Nat) (lv : List (Option Value)) (st : List Value) : Prop :=
  ∀ (H : Heap) (locs : List Loc) (cells slots : Nat) (ls : Array Slot), pR G h H → va_S (gF G) (xs X).heap H locs → lv_has ls (xc X).maxLocals (las 0 lv) → cells + k ≤ (xR X).cells → slots + n ≤ (xR X).slots →
    W (xp X) (gl G) (xe X) (xR X) (xs X) (xm X) (xa X) (xb X) (xme X) (xc X) H locs cells slots (xq X) (F0 (xm X) pc ls st)
/-- the same, with an exception of class E on its way -/
def GoX (X : Cx) (G : GT) (h : PH) (k n pc : Nat) (lv : List (Option Value)) (E : String) : Prop :=
  ∀ (H : Heap) (locs : List Loc) (cells slots : Nat) (ls : Array Slot) (rest : List Value) (ce : Cell) (q : Addr), pR G h H → va_S (gF G) (xs X).heap H locs → lv_has ls (xc X).maxLocals (las 0 lv) → cells + k ≤ (xR X).cells → slots + n ≤ (xR X).slots →
    H[q]? = some ce → ce.vm = .none → (xs X).vm.findClass E = some ce.cls →
    vx_W (xp X) (gl G) (xe X) (xR X) (xs X) (xm X) (xa X) (xb X) (xme X) (xc X) H locs cells slots (xq X) (F0 (xm X) pc ls rest) q
def CxOK (X : Cx) (G : GT) (cc : ByteArray) (nL : Nat) (own : String) (ret : Option FieldType) (rm : Room) : Prop :=
  (xp X).tables.exec = Jvm.exec ∧ (xc X).code = cc ∧ (xc X).maxLocals = nL ∧ (xs X).vm.findClass own = some (xm X).cls ∧ (∀ w ∈ lw_all, w.before (xa X) (xs X) = true) ∧ KN G (xs X) ∧ gb G ≤ (xs X).heap.size ∧ (xme X).sig.returnType = ret ∧ (xme X).locks = false ∧ xR X = rm ∧ (gl G).stackTraces = false
/-- a contract's end -/
def QC (G : GT) (Q : Option Value → PH → Prop) : Array Value → State → Outcome → State → Prop := fun _ st oc t => (∃ (v : Option Value) (h' : PH), oc = .returned v ∧ Q v h' ∧ pR G h' t.heap) ∧ va_F (gF G) st t
def QX (G : GT) (QE : String → PH → Prop) : String → State → State → Prop := fun E st t => (∃ h' : PH, QE E h' ∧ pR G h' t.heap) ∧ va_F (gF G) st t
def FinOK (X : Cx) (G : GT) (Q : Option Value → PH → Prop) (QE : String → PH → Prop) : Prop := xq X = vx_MQ (xb X) (QC G Q) (QX G QE) (xa X) (xs X) (xR X).cells (xR X).slots (gF G)
def PC (G : GT) (h : PH) : State → Prop := fun U => gb G ≤ U.heap.size ∧ pR G h U.heap ∧ KN G U
/-- from heap h, with these arguments: the method returns v over h' with Q, or throws E over h' with QE -/
def CT (G : GT) (y : MethodName) (cc : ByteArray) (nL : Nat) (ret : Option FieldType) (rm : Room) (as : List Value) (h : PH) (Q : Option Value → PH → Prop) (QE : String → PH → Prop) : Prop :=
  (gl G).stackTraces = false → vx_Met (gl G) y (ws_ y cc nL ret) rm (va_Pc as (PC G h)) (QC G Q) (QX G QE) rm.cells rm.slots (gF G)
def noX : String → PH → Prop := fun _ _ => False
abbrev rmL (d mc ms : Nat) : Room := { frames := d, cells := mc, slots := ms, locals := 80 * d }
theorem CT_ofI {G : GT} {y : MethodName} {cc : ByteArray} {nL : Nat} {ret : Option FieldType} {rm : Room} {as : List Value} {h : PH} {Q : Option Value → PH → Prop} {QE : String → PH → Prop} (lv : List (Option Value)) (hy : plainName y.cls = true) (hlv : las 0 lv = lv_args 0 as) (hlen : (lg_sl as).length ≤ nL)
    (body : ∀ X : Cx, CxOK X G cc nL y.cls ret rm → FinOK X G Q QE → (∀ x ∈ (xc X).exceptionTable.toList, False) → (xme X).name = y.name → Go X G h rm.cells rm.slots 0 lv []) : CT G y cc nL ret rm as h Q QE := by
  intro htr
  refine vx_ofW (cc := cc) (maxL := nL) (ret := ret) hy rfl ?_
  intro p e s m args below meth c s₁ B hml hex hv
  obtain ⟨rfl, hsz, hR, hK⟩ := hv
  have hts := atoms_spec (ws := ws_ y cc nL ret) B.pre
  have hts : ∀ w ∈ lw_all, w.before _ s = true := fun w h => hts w (List.mem_cons_of_mem _ h)
  have hown : s.vm.findClass y.cls = some m.cls := findClass_of_methodNamed B.named
  have hl := lv_entry as (n := nL) hlen
  rw [lg_entry_eq]
  generalize (lg_sl as ++ List.replicate (nL - (lg_sl as).length) Slot.unset).toArray = ls at hl ⊢
  rw [← hlv] at hl
  have key := body (p, e, rm, s, m, as.toArray, below, meth, c, vx_MQ below (QC G Q) (QX G QE) as.toArray s rm.cells rm.slots (gF G)) ⟨B.exec, B.bytes, hml, hown, hts, hK, hsz, B.returns, B.notSynchronized, rfl, htr⟩ rfl hex (name_of_methodNamed B.named B.method).1
  exact key s.heap [] 0 0 ls hR va_S.rf (by rw [hml]; exact hl) (by rw [Nat.zero_add]; exact Nat.le_refl _) (by rw [Nat.zero_add]; exact Nat.le_refl _)
theorem CT_of {G : GT} {y : MethodName} {cc : ByteArray} {nL : Nat} {ret : Option FieldType} {rm : Room} {as : List Value} {h : PH} {Q : Option Value → PH → Prop} {QE : String → PH → Prop} (lv : List (Option Value)) (hy : plainName y.cls = true) (hlv : las 0 lv = lv_args 0 as) (hlen : (lg_sl as).length ≤ nL)
    (body : ∀ X : Cx, CxOK X G cc nL y.cls ret rm → FinOK X G Q QE → (∀ x ∈ (xc X).exceptionTable.toList, False) → Go X G h rm.cells rm.slots 0 lv []) : CT G y cc nL ret rm as h Q QE :=
  CT_ofI lv hy hlv hlen (fun X hC hF hE _ => body X hC hF hE)
theorem go_le {X : Cx} {G : GT} {h : PH} {k n k' n' pc : Nat} {lv : List (Option Value)} {st : List Value} (h1 : k' ≤ k) (h2 : n' ≤ n) (kk : Go X G h k' n' pc lv st) : Go X G h k n pc lv st :=
  fun H locs cells slots ls hR hS hl q1 q2 => kk H locs cells slots ls hR hS hl (by omega) (by omega)
theorem go_lv {X : Cx} {G : GT} {h : PH} {k n pc : Nat} {lv lv' : List (Option Value)} {st : List Value} (hs : ∀ (j : Nat) (v : Value), lv'[j]? = some (some v) → lv[j]? = some (some v)) (kk : Go X G h k n pc lv' st) : Go X G h k n pc lv st :=
  fun H locs cells slots ls hR hS hl q1 q2 => kk H locs cells slots ls hR hS (lv_mono hl (fun q hq => mem_las0.mpr (hs q.1 q.2 (mem_las0.mp hq)))) q1 q2
theorem go_iadd {X : Cx} {G : GT} {h : PH} {k n pc nL : Nat} {lv : List (Option Value)} {rest : List Value} {cc : ByteArray} {own : String} {ret : Option FieldType} {rm : Room} (hC : CxOK X G cc nL own ret rm) {x y : Int32} (hd : decode cc pc = .ok (.iadd, 1))  (kk : Go X G h k n (pc + 1) lv (.int (x + y) :: rest)) : Go X G h k n pc lv (.int y :: .int x :: rest) :=
  fun H locs cells slots ls hR hS hl q1 q2 => lv_iadd hC.1 hC.2.1 hd (kk H locs cells slots ls hR hS hl q1 q2)
theorem go_isub {X : Cx} {G : GT} {h : PH} {k n pc nL : Nat} {lv : List (Option Value)} {rest : List Value} {cc : ByteArray} {own : String} {ret : Option FieldType} {rm : Room} (hC : CxOK X G cc nL own ret rm) {x y : Int32} (hd : decode cc pc = .ok (.isub, 1))  (kk : Go X G h k n (pc + 1) lv (.int (x - y) :: rest)) : Go X G h k n pc lv (.int y :: .int x :: rest) :=
  fun H locs cells slots ls hR hS hl q1 q2 => lv_isub hC.1 hC.2.1 hd (kk H locs cells slots ls hR hS hl q1 q2)
theorem go_imul {X : Cx} {G : GT} {h : PH} {k n pc nL : Nat} {lv : List (Option Value)} {rest : List Value} {cc : ByteArray} {own : String} {ret : Option FieldType} {rm : Room} (hC : CxOK X G cc nL own ret rm) {x y : Int32} (hd : decode cc pc = .ok (.imul, 1))  (kk : Go X G h k n (pc + 1) lv (.int (x * y) :: rest)) : Go X G h k n pc lv (.int y :: .int x :: rest) :=
  fun H locs cells slots ls hR hS hl q1 q2 => lv_imul hC.1 hC.2.1 hd (kk H locs cells slots ls hR hS hl q1 q2)
theorem go_iand {X : Cx} {G : GT} {h : PH} {k n pc nL : Nat} {lv : List (Option Value)} {rest : List Value} {cc : ByteArray} {own : String} {ret : Option FieldType} {rm : Room} (hC : CxOK X G cc nL own ret rm) {x y : Int32} (hd : decode cc pc = .ok (.iand, 1))  (kk : Go X G h k n (pc + 1) lv (.int (x &&& y) :: rest)) : Go X G h k n pc lv (.int y :: .int x :: rest) :=
  fun H locs cells slots ls hR hS hl q1 q2 => lv_iand hC.1 hC.2.1 hd (kk H locs cells slots ls hR hS hl q1 q2)
theorem go_ior {X : Cx} {G : GT} {h : PH} {k n pc nL : Nat} {lv : List (Option Value)} {rest : List Value} {cc : ByteArray} {own : String} {ret : Option FieldType} {rm : Room} (hC : CxOK X G cc nL own ret rm) {x y : Int32} (hd : decode cc pc = .ok (.ior, 1))  (kk : Go X G h k n (pc + 1) lv (.int (x ||| y) :: rest)) : Go X G h k n pc lv (.int y :: .int x :: rest) :=
  fun H locs cells slots ls hR hS hl q1 q2 => lv_ior hC.1 hC.2.1 hd (kk H locs cells slots ls hR hS hl q1 q2)
theorem go_ixor {X : Cx} {G : GT} {h : PH} {k n pc nL : Nat} {lv : List (Option Value)} {rest : List Value} {cc : ByteArray} {own : String} {ret : Option FieldType} {rm : Room} (hC : CxOK X G cc nL own ret rm) {x y : Int32} (hd : decode cc pc = .ok (.ixor, 1))  (kk : Go X G h k n (pc + 1) lv (.int (x ^^^ y) :: rest)) : Go X G h k n pc lv (.int y :: .int x :: rest) :=
  fun H locs cells slots ls hR hS hl q1 q2 => lv_ixor hC.1 hC.2.1 hd (kk H locs cells slots ls hR hS hl q1 q2)
theorem go_ishl {X : Cx} {G : GT} {h : PH} {k n pc nL : Nat} {lv : List (Option Value)} {rest : List Value} {cc : ByteArray} {own : String} {ret : Option FieldType} {rm : Room} (hC : CxOK X G cc nL own ret rm) {x y : Int32} (hd : decode cc pc = .ok (.ishl, 1))  (kk : Go X G h k n (pc + 1) lv (.int (x <<< (y &&& 31)) :: rest)) : Go X G h k n pc lv (.int y :: .int x :: rest) :=
  fun H locs cells slots ls hR hS hl q1 q2 => lv_ishl hC.1 hC.2.1 hd (kk H locs cells slots ls hR hS hl q1 q2)
theorem go_ishr {X : Cx} {G : GT} {h : PH} {k n pc nL : Nat} {lv : List (Option Value)} {rest : List Value} {cc : ByteArray} {own : String} {ret : Option FieldType} {rm : Room} (hC : CxOK X G cc nL own ret rm) {x y : Int32} (hd : decode cc pc = .ok (.ishr, 1))  (kk : Go X G h k n (pc + 1) lv (.int (x >>> (y &&& 31)) :: rest)) : Go X G h k n pc lv (.int y :: .int x :: rest) :=
  fun H locs cells slots ls hR hS hl q1 q2 => lv_ishr hC.1 hC.2.1 hd (kk H locs cells slots ls hR hS hl q1 q2)
theorem go_ladd {X : Cx} {G : GT} {h : PH} {k n pc nL : Nat} {lv : List (Option Value)} {rest : List Value} {cc : ByteArray} {own : String} {ret : Option FieldType} {rm : Room} (hC : CxOK X G cc nL own ret rm) {x y : Int64} (hd : decode cc pc = .ok (.ladd, 1))  (kk : Go X G h k n (pc + 1) lv (.long (x + y) :: rest)) : Go X G h k n pc lv (.long y :: .long x :: rest) :=
  fun H locs cells slots ls hR hS hl q1 q2 => lv_ladd hC.1 hC.2.1 hd (kk H locs cells slots ls hR hS hl q1 q2)
theorem go_lmul {X : Cx} {G : GT} {h : PH} {k n pc nL : Nat} {lv : List (Option Value)} {rest : List Value} {cc : ByteArray} {own : String} {ret : Option FieldType} {rm : Room} (hC : CxOK X G cc nL own ret rm) {x y : Int64} (hd : decode cc pc = .ok (.lmul, 1))  (kk : Go X G h k n (pc + 1) lv (.long (x * y) :: rest)) : Go X G h k n pc lv (.long y :: .long x :: rest) :=
  fun H locs cells slots ls hR hS hl q1 q2 => lv_lmul hC.1 hC.2.1 hd (kk H locs cells slots ls hR hS hl q1 q2)
theorem go_idiv {X : Cx} {G : GT} {h : PH} {k n pc nL : Nat} {lv : List (Option Value)} {rest : List Value} {cc : ByteArray} {own : String} {ret : Option FieldType} {rm : Room} (hC : CxOK X G cc nL own ret rm) {x y : Int32} (hd : decode cc pc = .ok (.idiv, 1)) (hne : ¬ y = 0) (kk : Go X G h k n (pc + 1) lv (.int (x / y) :: rest)) : Go X G h k n pc lv (.int y :: .int x :: rest) :=
  fun H locs cells slots ls hR hS hl q1 q2 => lv_idiv hC.1 hC.2.1 hd hne (kk H locs cells slots ls hR hS hl q1 q2)
theorem go_irem {X : Cx} {G : GT} {h : PH} {k n pc nL : Nat} {lv : List (Option Value)} {rest : List Value} {cc : ByteArray} {own : String} {ret : Option FieldType} {rm : Room} (hC : CxOK X G cc nL own ret rm) {x y : Int32} (hd : decode cc pc = .ok (.irem, 1)) (hne : ¬ y = 0) (kk : Go X G h k n (pc + 1) lv (.int (x - x / y * y) :: rest)) : Go X G h k n pc lv (.int y :: .int x :: rest) :=
  fun H locs cells slots ls hR hS hl q1 q2 => lv_irem hC.1 hC.2.1 hd hne (kk H locs cells slots ls hR hS hl q1 q2)
theorem go_ineg {X : Cx} {G : GT} {h : PH} {k n pc nL : Nat} {lv : List (Option Value)} {rest : List Value} {cc : ByteArray} {own : String} {ret : Option FieldType} {rm : Room} (hC : CxOK X G cc nL own ret rm) {x : Int32} (hd : decode cc pc = .ok (.ineg, 1))  (kk : Go X G h k n (pc + 1) lv (.int (-x) :: rest)) : Go X G h k n pc lv (.int x :: rest) :=
  fun H locs cells slots ls hR hS hl q1 q2 => lv_ineg hC.1 hC.2.1 hd (kk H locs cells slots ls hR hS hl q1 q2)
theorem go_iushr {X : Cx} {G : GT} {h : PH} {k n pc nL : Nat} {lv : List (Option Value)} {rest : List Value} {cc : ByteArray} {own : String} {ret : Option FieldType} {rm : Room} (hC : CxOK X G cc nL own ret rm) {x y v : Int32} (hd : decode cc pc = .ok (.iushr, 1)) (hv : (x.toUInt32 >>> (y.toUInt32 &&& Int32.toUInt32 31)).toInt32 = v) (kk : Go X G h k n (pc + 1) lv (.int v :: rest)) : Go X G h k n pc lv (.int y :: .int x :: rest) :=
  fun H locs cells slots ls hR hS hl q1 q2 => lv_iushr hC.1 hC.2.1 hd hv (kk H locs cells slots ls hR hS hl q1 q2)
theorem go_i2l {X : Cx} {G : GT} {h : PH} {k n pc nL : Nat} {lv : List (Option Value)} {rest : List Value} {cc : ByteArray} {own : String} {ret : Option FieldType} {rm : Room} (hC : CxOK X G cc nL own ret rm) {x : Int32} (hd : decode cc pc = .ok (.i2l, 1))  (kk : Go X G h k n (pc + 1) lv (.long x.toInt64 :: rest)) : Go X G h k n pc lv (.int x :: rest) :=
  fun H locs cells slots ls hR hS hl q1 q2 => lv_i2l hC.1 hC.2.1 hd rfl (kk H locs cells slots ls hR hS hl q1 q2)
theorem go_i2c {X : Cx} {G : GT} {h : PH} {k n pc nL : Nat} {lv : List (Option Value)} {rest : List Value} {cc : ByteArray} {own : String} {ret : Option FieldType} {rm : Room} (hC : CxOK X G cc nL own ret rm) {x : Int32} (hd : decode cc pc = .ok (.i2c, 1))  (kk : Go X G h k n (pc + 1) lv (.int (x.toUInt32 % 65536).toInt32 :: rest)) : Go X G h k n pc lv (.int x :: rest) :=
  fun H locs cells slots ls hR hS hl q1 q2 => lv_i2c hC.1 hC.2.1 hd rfl (kk H locs cells slots ls hR hS hl q1 q2)
theorem go_i2b {X : Cx} {G : GT} {h : PH} {k n pc nL : Nat} {lv : List (Option Value)} {rest : List Value} {cc : ByteArray} {own : String} {ret : Option FieldType} {rm : Room} (hC : CxOK X G cc nL own ret rm) {x : Int32} (hd : decode cc pc = .ok (.i2b, 1))  (kk : Go X G h k n (pc + 1) lv (.int x.toInt8.toInt32 :: rest)) : Go X G h k n pc lv (.int x :: rest) :=
  fun H locs cells slots ls hR hS hl q1 q2 => lv_i2b hC.1 hC.2.1 hd rfl (kk H locs cells slots ls hR hS hl q1 q2)
theorem go_i2d {X : Cx} {G : GT} {h : PH} {k n pc nL : Nat} {lv : List (Option Value)} {rest : List Value} {cc : ByteArray} {own : String} {ret : Option FieldType} {rm : Room} (hC : CxOK X G cc nL own ret rm) {x : Int32} (hd : decode cc pc = .ok (.i2d, 1))  (kk : Go X G h k n (pc + 1) lv (.double (FP.i2d x) :: rest)) : Go X G h k n pc lv (.int x :: rest) :=
  fun H locs cells slots ls hR hS hl q1 q2 => lv_i2d hC.1 hC.2.1 hd (kk H locs cells slots ls hR hS hl q1 q2)
theorem go_ddiv {X : Cx} {G : GT} {h : PH} {k n pc nL : Nat} {lv : List (Option Value)} {rest : List Value} {cc : ByteArray} {own : String} {ret : Option FieldType} {rm : Room} (hC : CxOK X G cc nL own ret rm) {x y : UInt64} (hd : decode cc pc = .ok (.ddiv, 1)) (hne : vf_n64 (FP.ddiv x y)) (kk : Go X G h k n (pc + 1) lv (.double (FP.ddiv x y) :: rest)) : Go X G h k n pc lv (.double y :: .double x :: rest) :=
  fun H locs cells slots ls hR hS hl q1 q2 => lv_ddiv hC.1 hC.2.1 hd hne (kk H locs cells slots ls hR hS hl q1 q2)
theorem go_dcmp {X : Cx} {G : GT} {h : PH} {k n pc nL : Nat} {lv : List (Option Value)} {rest : List Value} {cc : ByteArray} {own : String} {ret : Option FieldType} {rm : Room} (hC : CxOK X G cc nL own ret rm) {x y : UInt64} {op : CmpOp} (hd : decode cc pc = .ok (.dcmp op, 1))  (kk : Go X G h k n (pc + 1) lv (.int (Op.cmpValue (FP.dcmp x y) op) :: rest)) : Go X G h k n pc lv (.double y :: .double x :: rest) :=
  fun H locs cells slots ls hR hS hl q1 q2 => lv_dcmp hC.1 hC.2.1 hd (kk H locs cells slots ls hR hS hl q1 q2)
theorem go_lcmp {X : Cx} {G : GT} {h : PH} {k n pc nL : Nat} {lv : List (Option Value)} {rest : List Value} {cc : ByteArray} {own : String} {ret : Option FieldType} {rm : Room} (hC : CxOK X G cc nL own ret rm) {x y : Int64} (hd : decode cc pc = .ok (.lcmp, 1))  (kk : Go X G h k n (pc + 1) lv (.int (lg_cmp x y) :: rest)) : Go X G h k n pc lv (.long y :: .long x :: rest) :=
  fun H locs cells slots ls hR hS hl q1 q2 => W.lcmp hC.1 hC.2.1 hd (kk H locs cells slots ls hR hS hl q1 q2)
theorem go_dconst0 {X : Cx} {G : GT} {h : PH} {k n pc nL : Nat} {lv : List (Option Value)} {rest : List Value} {cc : ByteArray} {own : String} {ret : Option FieldType} {rm : Room} (hC : CxOK X G cc nL own ret rm)  (hd : decode cc pc = .ok (.dconst 0, 1))  (kk : Go X G h k n (pc + 1) lv (.double FP.dconst0 :: rest)) : Go X G h k n pc lv (rest) :=
  fun H locs cells slots ls hR hS hl q1 q2 => lv_dconst0 hC.1 hC.2.1 hd (kk H locs cells slots ls hR hS hl q1 q2)
theorem go_dconst1 {X : Cx} {G : GT} {h : PH} {k n pc nL : Nat} {lv : List (Option Value)} {rest : List Value} {cc : ByteArray} {own : String} {ret : Option FieldType} {rm : Room} (hC : CxOK X G cc nL own ret rm)  (hd : decode cc pc = .ok (.dconst 1, 1))  (kk : Go X G h k n (pc + 1) lv (.double FP.dconst1 :: rest)) : Go X G h k n pc lv (rest) :=
  fun H locs cells slots ls hR hS hl q1 q2 => lv_dconst1 hC.1 hC.2.1 hd (kk H locs cells slots ls hR hS hl q1 q2)
theorem go_iconst {X : Cx} {G : GT} {h : PH} {k n pc nL : Nat} {lv : List (Option Value)} {rest : List Value} {cc : ByteArray} {own : String} {ret : Option FieldType} {rm : Room} (hC : CxOK X G cc nL own ret rm) {m : Int} (v : Int32) (hd : decode cc pc = .ok (.iconst m, 1)) (hv : Int32.ofInt m = v) (kk : Go X G h k n (pc + 1) lv (.int v :: rest)) : Go X G h k n pc lv (rest) :=
  fun H locs cells slots ls hR hS hl q1 q2 => lv_iconst hC.1 hC.2.1 hd hv (kk H locs cells slots ls hR hS hl q1 q2)
theorem go_bipush {X : Cx} {G : GT} {h : PH} {k n pc nL : Nat} {lv : List (Option Value)} {rest : List Value} {cc : ByteArray} {own : String} {ret : Option FieldType} {rm : Room} (hC : CxOK X G cc nL own ret rm) {m : Int} (v : Int32) (hd : decode cc pc = .ok (.bipush m, 2)) (hv : (Int8.ofInt m).toInt32 = v) (kk : Go X G h k n (pc + 2) lv (.int v :: rest)) : Go X G h k n pc lv (rest) :=
  fun H locs cells slots ls hR hS hl q1 q2 => lv_bipush hC.1 hC.2.1 hd hv (kk H locs cells slots ls hR hS hl q1 q2)
theorem go_sipush {X : Cx} {G : GT} {h : PH} {k n pc nL : Nat} {lv : List (Option Value)} {rest : List Value} {cc : ByteArray} {own : String} {ret : Option FieldType} {rm : Room} (hC : CxOK X G cc nL own ret rm) {m : Int} (v : Int32) (hd : decode cc pc = .ok (.sipush m, 3)) (hv : (Int16.ofInt m).toInt32 = v) (kk : Go X G h k n (pc + 3) lv (.int v :: rest)) : Go X G h k n pc lv (rest) :=
  fun H locs cells slots ls hR hS hl q1 q2 => lv_sipush hC.1 hC.2.1 hd hv (kk H locs cells slots ls hR hS hl q1 q2)
theorem go_lconst {X : Cx} {G : GT} {h : PH} {k n pc nL : Nat} {lv : List (Option Value)} {rest : List Value} {cc : ByteArray} {own : String} {ret : Option FieldType} {rm : Room} (hC : CxOK X G cc nL own ret rm) {m : Fin 2} (v : Int64) (hd : decode cc pc = .ok (.lconst m, 1)) (hv : Int64.ofNat (m : Nat) = v) (kk : Go X G h k n (pc + 1) lv (.long v :: rest)) : Go X G h k n pc lv (rest) :=
  fun H locs cells slots ls hR hS hl q1 q2 => lv_lconst hC.1 hC.2.1 hd hv (kk H locs cells slots ls hR hS hl q1 q2)
theorem go_ldc {X : Cx} {G : GT} {h : PH} {k n pc nL : Nat} {lv : List (Option Value)} {rest : List Value} {cc : ByteArray} {own : String} {ret : Option FieldType} {rm : Room} (hC : CxOK X G cc nL own ret rm) {i : Nat} {v : Int32} (hd : decode cc pc = .ok (.ldc i, 2)) (hq : Jvm.Cond.constant own i v ∈ lw_all) (kk : Go X G h k n (pc + 2) lv (.int v :: rest)) : Go X G h k n pc lv (rest) :=
  fun H locs cells slots ls hR hS hl q1 q2 => lv_ldc hC.1 hC.2.1 hC.2.2.2.1 (hC.2.2.2.2.1 _ hq) hd (kk H locs cells slots ls hR hS hl q1 q2)
theorem go_ldcf {X : Cx} {G : GT} {h : PH} {k n pc nL : Nat} {lv : List (Option Value)} {rest : List Value} {cc : ByteArray} {own : String} {ret : Option FieldType} {rm : Room} (hC : CxOK X G cc nL own ret rm) {i : Nat} {v : UInt32} (hd : decode cc pc = .ok (.ldc i, 2)) (hq : Jvm.Cond.constantFloat own i v ∈ lw_all) (kk : Go X G h k n (pc + 2) lv (.float v :: rest)) : Go X G h k n pc lv (rest) :=
  fun H locs cells slots ls hR hS hl q1 q2 => lv_ldcf hC.1 hC.2.1 hC.2.2.2.1 (hC.2.2.2.2.1 _ hq) hd (kk H locs cells slots ls hR hS hl q1 q2)
theorem go_ldc2 {X : Cx} {G : GT} {h : PH} {k n pc nL : Nat} {lv : List (Option Value)} {rest : List Value} {cc : ByteArray} {own : String} {ret : Option FieldType} {rm : Room} (hC : CxOK X G cc nL own ret rm) {i : Nat} {v : Int64} (hd : decode cc pc = .ok (.ldc2_w i, 3)) (hq : Jvm.Cond.constantLong own i v ∈ lw_all) (kk : Go X G h k n (pc + 3) lv (.long v :: rest)) : Go X G h k n pc lv (rest) :=
  fun H locs cells slots ls hR hS hl q1 q2 => lv_ldc2 hC.1 hC.2.1 hC.2.2.2.1 (hC.2.2.2.2.1 _ hq) hd (kk H locs cells slots ls hR hS hl q1 q2)
theorem go_null {X : Cx} {G : GT} {h : PH} {k n pc nL : Nat} {lv : List (Option Value)} {rest : List Value} {cc : ByteArray} {own : String} {ret : Option FieldType} {rm : Room} (hC : CxOK X G cc nL own ret rm)  (hd : decode cc pc = .ok (.aconst_null, 1))  (kk : Go X G h k n (pc + 1) lv (.null :: rest)) : Go X G h k n pc lv (rest) :=
  fun H locs cells slots ls hR hS hl q1 q2 => lv_null hC.1 hC.2.1 hd (kk H locs cells slots ls hR hS hl q1 q2)
theorem go_dup {X : Cx} {G : GT} {h : PH} {k n pc nL : Nat} {lv : List (Option Value)} {rest : List Value} {cc : ByteArray} {own : String} {ret : Option FieldType} {rm : Room} (hC : CxOK X G cc nL own ret rm) {a : Value} (hd : decode cc pc = .ok (.dup, 1)) (c1 : a.category = 1) (kk : Go X G h k n (pc + 1) lv (a :: a :: rest)) : Go X G h k n pc lv (a :: rest) :=
  fun H locs cells slots ls hR hS hl q1 q2 => lv_dup hC.1 hC.2.1 hd c1 (kk H locs cells slots ls hR hS hl q1 q2)
theorem go_pop {X : Cx} {G : GT} {h : PH} {k n pc nL : Nat} {lv : List (Option Value)} {rest : List Value} {cc : ByteArray} {own : String} {ret : Option FieldType} {rm : Room} (hC : CxOK X G cc nL own ret rm) {a : Value} (hd : decode cc pc = .ok (.pop, 1)) (c1 : a.category = 1) (kk : Go X G h k n (pc + 1) lv (rest)) : Go X G h k n pc lv (a :: rest) :=
  fun H locs cells slots ls hR hS hl q1 q2 => lv_pop hC.1 hC.2.1 hd c1 (kk H locs cells slots ls hR hS hl q1 q2)
theorem go_dup_x1 {X : Cx} {G : GT} {h : PH} {k n pc nL : Nat} {lv : List (Option Value)} {rest : List Value} {cc : ByteArray} {own : String} {ret : Option FieldType} {rm : Room} (hC : CxOK X G cc nL own ret rm) {a b : Value} (hd : decode cc pc = .ok (.dup_x1, 1)) (c1 : a.category = 1) (c2 : b.category = 1) (kk : Go X G h k n (pc + 1) lv (a :: b :: a :: rest)) : Go X G h k n pc lv (a :: b :: rest) :=
  fun H locs cells slots ls hR hS hl q1 q2 => lv_dup_x1 hC.1 hC.2.1 hd c1 c2 (kk H locs cells slots ls hR hS hl q1 q2)
theorem go_dup_x2 {X : Cx} {G : GT} {h : PH} {k n pc nL : Nat} {lv : List (Option Value)} {rest : List Value} {cc : ByteArray} {own : String} {ret : Option FieldType} {rm : Room} (hC : CxOK X G cc nL own ret rm) {a b d : Value} (hd : decode cc pc = .ok (.dup_x2, 1)) (c1 : a.category = 1) (c2 : b.category = 1) (c3 : d.category = 1) (kk : Go X G h k n (pc + 1) lv (a :: b :: d :: a :: rest)) : Go X G h k n pc lv (a :: b :: d :: rest) :=
  fun H locs cells slots ls hR hS hl q1 q2 => lv_dup_x2 hC.1 hC.2.1 hd c1 c2 c3 (kk H locs cells slots ls hR hS hl q1 q2)
theorem go_dup2 {X : Cx} {G : GT} {h : PH} {k n pc nL : Nat} {lv : List (Option Value)} {rest : List Value} {cc : ByteArray} {own : String} {ret : Option FieldType} {rm : Room} (hC : CxOK X G cc nL own ret rm) {a b : Value} (hd : decode cc pc = .ok (.dup2, 1)) (c1 : a.category = 1) (c2 : b.category = 1) (kk : Go X G h k n (pc + 1) lv (a :: b :: a :: b :: rest)) : Go X G h k n pc lv (a :: b :: rest) :=
  fun H locs cells slots ls hR hS hl q1 q2 => lv_dup2_11 hC.1 hC.2.1 hd c1 c2 (kk H locs cells slots ls hR hS hl q1 q2)
theorem go_iload {X : Cx} {G : GT} {h : PH} {k n pc nL : Nat} {lv : List (Option Value)} {rest : List Value} {cc : ByteArray} {own : String} {ret : Option FieldType} {rm : Room} (hC : CxOK X G cc nL own ret rm) {i : Nat} {x : Int32} (hd : decode cc pc = .ok (.iload i, 2)) (hi : lv[i]? = some (some (.int x))) (kk : Go X G h k n (pc + 2) lv (.int x :: rest)) : Go X G h k n pc lv (rest) :=
  fun H locs cells slots ls hR hS hl q1 q2 => lv_iload hC.1 hC.2.1 hd (las_at hl hi) (kk H locs cells slots ls hR hS hl q1 q2)
theorem go_iload_n {X : Cx} {G : GT} {h : PH} {k n pc nL : Nat} {lv : List (Option Value)} {rest : List Value} {cc : ByteArray} {own : String} {ret : Option FieldType} {rm : Room} (hC : CxOK X G cc nL own ret rm) {i : Fin 4} {x : Int32} (hd : decode cc pc = .ok (.iload_n i, 1)) (hi : lv[(i : Nat)]? = some (some (.int x))) (kk : Go X G h k n (pc + 1) lv (.int x :: rest)) : Go X G h k n pc lv (rest) :=
  fun H locs cells slots ls hR hS hl q1 q2 => lv_iload_n hC.1 hC.2.1 hd rfl (las_at hl hi) (kk H locs cells slots ls hR hS hl q1 q2)
theorem go_lload {X : Cx} {G : GT} {h : PH} {k n pc nL : Nat} {lv : List (Option Value)} {rest : List Value} {cc : ByteArray} {own : String} {ret : Option FieldType} {rm : Room} (hC : CxOK X G cc nL own ret rm) {i : Nat} {x : Int64} (hd : decode cc pc = .ok (.lload i, 2)) (hi : lv[i]? = some (some (.long x))) (kk : Go X G h k n (pc + 2) lv (.long x :: rest)) : Go X G h k n pc lv (rest) :=
  fun H locs cells slots ls hR hS hl q1 q2 => lv_lload hC.1 hC.2.1 hd (las_at hl hi) (kk H locs cells slots ls hR hS hl q1 q2)
theorem go_lload_n {X : Cx} {G : GT} {h : PH} {k n pc nL : Nat} {lv : List (Option Value)} {rest : List Value} {cc : ByteArray} {own : String} {ret : Option FieldType} {rm : Room} (hC : CxOK X G cc nL own ret rm) {i : Fin 4} {x : Int64} (hd : decode cc pc = .ok (.lload_n i, 1)) (hi : lv[(i : Nat)]? = some (some (.long x))) (kk : Go X G h k n (pc + 1) lv (.long x :: rest)) : Go X G h k n pc lv (rest) :=
  fun H locs cells slots ls hR hS hl q1 q2 => lv_lload_n hC.1 hC.2.1 hd rfl (las_at hl hi) (kk H locs cells slots ls hR hS hl q1 q2)
theorem go_dload {X : Cx} {G : GT} {h : PH} {k n pc nL : Nat} {lv : List (Option Value)} {rest : List Value} {cc : ByteArray} {own : String} {ret : Option FieldType} {rm : Room} (hC : CxOK X G cc nL own ret rm) {i : Nat} {x : UInt64} (hd : decode cc pc = .ok (.dload i, 2)) (hi : lv[i]? = some (some (.double x))) (kk : Go X G h k n (pc + 2) lv (.double x :: rest)) : Go X G h k n pc lv (rest) :=
  fun H locs cells slots ls hR hS hl q1 q2 => lv_dload hC.1 hC.2.1 hd (las_at hl hi) (kk H locs cells slots ls hR hS hl q1 q2)
theorem go_dload_n {X : Cx} {G : GT} {h : PH} {k n pc nL : Nat} {lv : List (Option Value)} {rest : List Value} {cc : ByteArray} {own : String} {ret : Option FieldType} {rm : Room} (hC : CxOK X G cc nL own ret rm) {i : Fin 4} {x : UInt64} (hd : decode cc pc = .ok (.dload_n i, 1)) (hi : lv[(i : Nat)]? = some (some (.double x))) (kk : Go X G h k n (pc + 1) lv (.double x :: rest)) : Go X G h k n pc lv (rest) :=
  fun H locs cells slots ls hR hS hl q1 q2 => lv_dload_n hC.1 hC.2.1 hd rfl (las_at hl hi) (kk H locs cells slots ls hR hS hl q1 q2)
theorem go_aload {X : Cx} {G : GT} {h : PH} {k n pc nL : Nat} {lv : List (Option Value)} {rest : List Value} {cc : ByteArray} {own : String} {ret : Option FieldType} {rm : Room} (hC : CxOK X G cc nL own ret rm) {i : Nat} {x : Nat} (hd : decode cc pc = .ok (.aload i, 2)) (hi : lv[i]? = some (some (.ref x))) (kk : Go X G h k n (pc + 2) lv (.ref x :: rest)) : Go X G h k n pc lv (rest) :=
  fun H locs cells slots ls hR hS hl q1 q2 => lv_aload hC.1 hC.2.1 hd (las_at hl hi) (kk H locs cells slots ls hR hS hl q1 q2)
theorem go_aload_n {X : Cx} {G : GT} {h : PH} {k n pc nL : Nat} {lv : List (Option Value)} {rest : List Value} {cc : ByteArray} {own : String} {ret : Option FieldType} {rm : Room} (hC : CxOK X G cc nL own ret rm) {i : Fin 4} {x : Nat} (hd : decode cc pc = .ok (.aload_n i, 1)) (hi : lv[(i : Nat)]? = some (some (.ref x))) (kk : Go X G h k n (pc + 1) lv (.ref x :: rest)) : Go X G h k n pc lv (rest) :=
  fun H locs cells slots ls hR hS hl q1 q2 => lv_aload_n hC.1 hC.2.1 hd rfl (las_at hl hi) (kk H locs cells slots ls hR hS hl q1 q2)
theorem go_aloadN {X : Cx} {G : GT} {h : PH} {k n pc nL : Nat} {lv : List (Option Value)} {rest : List Value} {cc : ByteArray} {own : String} {ret : Option FieldType} {rm : Room} (hC : CxOK X G cc nL own ret rm) {i : Nat} (hd : decode cc pc = .ok (.aload i, 2)) (hi : lv[i]? = some (some .null)) (kk : Go X G h k n (pc + 2) lv (.null :: rest)) : Go X G h k n pc lv (rest) :=
  fun H locs cells slots ls hR hS hl q1 q2 => lv_aloadN hC.1 hC.2.1 hd (las_at hl hi) (kk H locs cells slots ls hR hS hl q1 q2)
theorem go_aload_nN {X : Cx} {G : GT} {h : PH} {k n pc nL : Nat} {lv : List (Option Value)} {rest : List Value} {cc : ByteArray} {own : String} {ret : Option FieldType} {rm : Room} (hC : CxOK X G cc nL own ret rm) {i : Fin 4} (hd : decode cc pc = .ok (.aload_n i, 1)) (hi : lv[(i : Nat)]? = some (some .null)) (kk : Go X G h k n (pc + 1) lv (.null :: rest)) : Go X G h k n pc lv (rest) :=
  fun H locs cells slots ls hR hS hl q1 q2 => lv_aload_nN hC.1 hC.2.1 hd rfl (las_at hl hi) (kk H locs cells slots ls hR hS hl q1 q2)
theorem go_istore {X : Cx} {G : GT} {h : PH} {k n pc nL : Nat} {lv : List (Option Value)} {rest : List Value} {cc : ByteArray} {own : String} {ret : Option FieldType} {rm : Room} (hC : CxOK X G cc nL own ret rm) {i : Nat} {x : Int32} (hd : decode cc pc = .ok (.istore i, 2)) (hn : i < nL) (kk : Go X G h k n (pc + 2) (ls1 lv i (Value.int x)) rest) : Go X G h k n pc lv (Value.int x :: rest) :=
  fun H locs cells slots ls hR hS hl q1 q2 => lv_istore hC.1 hC.2.1 hd  hl (by rw [hC.2.2.1]; exact hn) rfl (fun ls' hl' => kk H locs cells slots ls' hR hS (ls1_has hl') q1 q2)
theorem go_istore_n {X : Cx} {G : GT} {h : PH} {k n pc nL : Nat} {lv : List (Option Value)} {rest : List Value} {cc : ByteArray} {own : String} {ret : Option FieldType} {rm : Room} (hC : CxOK X G cc nL own ret rm) {i : Fin 4} {x : Int32} (hd : decode cc pc = .ok (.istore_n i, 1)) (hn : (i : Nat) < nL) (kk : Go X G h k n (pc + 1) (ls1 lv (i : Nat) (Value.int x)) rest) : Go X G h k n pc lv (Value.int x :: rest) :=
  fun H locs cells slots ls hR hS hl q1 q2 => lv_istore_n hC.1 hC.2.1 hd rfl hl (by rw [hC.2.2.1]; exact hn) rfl (fun ls' hl' => kk H locs cells slots ls' hR hS (ls1_has hl') q1 q2)
theorem go_lstore {X : Cx} {G : GT} {h : PH} {k n pc nL : Nat} {lv : List (Option Value)} {rest : List Value} {cc : ByteArray} {own : String} {ret : Option FieldType} {rm : Room} (hC : CxOK X G cc nL own ret rm) {i : Nat} {x : Int64} (hd : decode cc pc = .ok (.lstore i, 2)) (hn : i + 1 < nL) (kk : Go X G h k n (pc + 2) (ls2 lv i (Value.long x)) rest) : Go X G h k n pc lv (Value.long x :: rest) :=
  fun H locs cells slots ls hR hS hl q1 q2 => lv_lstore hC.1 hC.2.1 hd  hl (by rw [hC.2.2.1]; exact hn) rfl (fun ls' hl' => kk H locs cells slots ls' hR hS (ls2_has hl') q1 q2)
theorem go_lstore_n {X : Cx} {G : GT} {h : PH} {k n pc nL : Nat} {lv : List (Option Value)} {rest : List Value} {cc : ByteArray} {own : String} {ret : Option FieldType} {rm : Room} (hC : CxOK X G cc nL own ret rm) {i : Fin 4} {x : Int64} (hd : decode cc pc = .ok (.lstore_n i, 1)) (hn : (i : Nat) + 1 < nL) (kk : Go X G h k n (pc + 1) (ls2 lv (i : Nat) (Value.long x)) rest) : Go X G h k n pc lv (Value.long x :: rest) :=
  fun H locs cells slots ls hR hS hl q1 q2 => lv_lstore_n hC.1 hC.2.1 hd rfl hl (by rw [hC.2.2.1]; exact hn) rfl (fun ls' hl' => kk H locs cells slots ls' hR hS (ls2_has hl') q1 q2)
theorem go_dstore {X : Cx} {G : GT} {h : PH} {k n pc nL : Nat} {lv : List (Option Value)} {rest : List Value} {cc : ByteArray} {own : String} {ret : Option FieldType} {rm : Room} (hC : CxOK X G cc nL own ret rm) {i : Nat} {x : UInt64} (hd : decode cc pc = .ok (.dstore i, 2)) (hn : i + 1 < nL) (kk : Go X G h k n (pc + 2) (ls2 lv i (Value.double x)) rest) : Go X G h k n pc lv (Value.double x :: rest) :=
  fun H locs cells slots ls hR hS hl q1 q2 => lv_dstore hC.1 hC.2.1 hd  hl (by rw [hC.2.2.1]; exact hn) rfl (fun ls' hl' => kk H locs cells slots ls' hR hS (ls2_has hl') q1 q2)
theorem go_dstore_n {X : Cx} {G : GT} {h : PH} {k n pc nL : Nat} {lv : List (Option Value)} {rest : List Value} {cc : ByteArray} {own : String} {ret : Option FieldType} {rm : Room} (hC : CxOK X G cc nL own ret rm) {i : Fin 4} {x : UInt64} (hd : decode cc pc = .ok (.dstore_n i, 1)) (hn : (i : Nat) + 1 < nL) (kk : Go X G h k n (pc + 1) (ls2 lv (i : Nat) (Value.double x)) rest) : Go X G h k n pc lv (Value.double x :: rest) :=
  fun H locs cells slots ls hR hS hl q1 q2 => lv_dstore_n hC.1 hC.2.1 hd rfl hl (by rw [hC.2.2.1]; exact hn) rfl (fun ls' hl' => kk H locs cells slots ls' hR hS (ls2_has hl') q1 q2)
theorem go_astore {X : Cx} {G : GT} {h : PH} {k n pc nL : Nat} {lv : List (Option Value)} {rest : List Value} {cc : ByteArray} {own : String} {ret : Option FieldType} {rm : Room} (hC : CxOK X G cc nL own ret rm) {i : Nat} {x : Nat} (hd : decode cc pc = .ok (.astore i, 2)) (hn : i < nL) (kk : Go X G h k n (pc + 2) (ls1 lv i (Value.ref x)) rest) : Go X G h k n pc lv (Value.ref x :: rest) :=
  fun H locs cells slots ls hR hS hl q1 q2 => lv_astore hC.1 hC.2.1 hd  hl (by rw [hC.2.2.1]; exact hn) rfl (fun ls' hl' => kk H locs cells slots ls' hR hS (ls1_has hl') q1 q2)
theorem go_astore_n {X : Cx} {G : GT} {h : PH} {k n pc nL : Nat} {lv : List (Option Value)} {rest : List Value} {cc : ByteArray} {own : String} {ret : Option FieldType} {rm : Room} (hC : CxOK X G cc nL own ret rm) {i : Fin 4} {x : Nat} (hd : decode cc pc = .ok (.astore_n i, 1)) (hn : (i : Nat) < nL) (kk : Go X G h k n (pc + 1) (ls1 lv (i : Nat) (Value.ref x)) rest) : Go X G h k n pc lv (Value.ref x :: rest) :=
  fun H locs cells slots ls hR hS hl q1 q2 => lv_astore_n hC.1 hC.2.1 hd rfl hl (by rw [hC.2.2.1]; exact hn) rfl (fun ls' hl' => kk H locs cells slots ls' hR hS (ls1_has hl') q1 q2)
theorem go_astoreN {X : Cx} {G : GT} {h : PH} {k n pc nL : Nat} {lv : List (Option Value)} {rest : List Value} {cc : ByteArray} {own : String} {ret : Option FieldType} {rm : Room} (hC : CxOK X G cc nL own ret rm) {i : Nat} (hd : decode cc pc = .ok (.astore i, 2)) (hn : i < nL) (kk : Go X G h k n (pc + 2) (ls1 lv i (Value.null)) rest) : Go X G h k n pc lv (Value.null :: rest) :=
  fun H locs cells slots ls hR hS hl q1 q2 => lv_astoreN hC.1 hC.2.1 hd  hl (by rw [hC.2.2.1]; exact hn) rfl (fun ls' hl' => kk H locs cells slots ls' hR hS (ls1_has hl') q1 q2)
theorem go_astore_nN {X : Cx} {G : GT} {h : PH} {k n pc nL : Nat} {lv : List (Option Value)} {rest : List Value} {cc : ByteArray} {own : String} {ret : Option FieldType} {rm : Room} (hC : CxOK X G cc nL own ret rm) {i : Fin 4} (hd : decode cc pc = .ok (.astore_n i, 1)) (hn : (i : Nat) < nL) (kk : Go X G h k n (pc + 1) (ls1 lv (i : Nat) (Value.null)) rest) : Go X G h k n pc lv (Value.null :: rest) :=
  fun H locs cells slots ls hR hS hl q1 q2 => lv_astore_nN hC.1 hC.2.1 hd rfl hl (by rw [hC.2.2.1]; exact hn) rfl (fun ls' hl' => kk H locs cells slots ls' hR hS (ls1_has hl') q1 q2)
theorem go_iinc {X : Cx} {G : GT} {h : PH} {k n pc nL : Nat} {lv : List (Option Value)} {rest : List Value} {cc : ByteArray} {own : String} {ret : Option FieldType} {rm : Room} (hC : CxOK X G cc nL own ret rm) {i : Nat} {m : Int} {x v : Int32} (hd : decode cc pc = .ok (.iinc i m, 3)) (hi : lv[i]? = some (some (.int x))) (hv : x + Int32.ofInt m = v) (hn : i < nL) (kk : Go X G h k n (pc + 3) (ls1 lv i (Value.int v)) rest) : Go X G h k n pc lv rest := by
  intro H locs cells slots ls hR hS hl q1 q2
  obtain ⟨j, hj⟩ := List.getElem?_of_mem (mem_las0.mpr hi)
  exact lv_iinc hC.1 hC.2.1 hd hl hj hv (by rw [hC.2.2.1]; exact hn) rfl (fun ls' hl' => kk H locs cells slots ls' hR hS (ls1_has hl') q1 q2)
theorem go_goto {X : Cx} {G : GT} {h : PH} {k n pc nL : Nat} {lv : List (Option Value)} {rest : List Value} {cc : ByteArray} {own : String} {ret : Option FieldType} {rm : Room} (hC : CxOK X G cc nL own ret rm) {off : Int} (tgt : Nat) (hd : decode cc pc = .ok (.goto off, 3)) (ht : (pc : Int) + off = (tgt : Int)) (kk : Go X G h k n tgt lv rest) : Go X G h k n pc lv rest :=
  fun H locs cells slots ls hR hS hl q1 q2 => lv_goto hC.1 hC.2.1 hd ht (kk H locs cells slots ls hR hS hl q1 q2)
theorem go_if_eq {X : Cx} {G : GT} {h : PH} {k n pc nL : Nat} {lv : List (Option Value)} {rest : List Value} {cc : ByteArray} {own : String} {ret : Option FieldType} {rm : Room} (hC : CxOK X G cc nL own ret rm) {x : Int32} {off : Int} (tgt : Nat) (hd : decode cc pc = .ok (.ifCond .eq off, 3)) (ht : (pc : Int) + off = (tgt : Int)) (kt : x = 0 → Go X G h k n tgt lv rest) (kf : ¬ x = 0 → Go X G h k n (pc + 3) lv rest) : Go X G h k n pc lv (.int x :: rest) :=
  fun H locs cells slots ls hR hS hl q1 q2 => lv_if_eq hC.1 hC.2.1 hd ht (fun q => kt q H locs cells slots ls hR hS hl q1 q2) (fun q => kf q H locs cells slots ls hR hS hl q1 q2)
theorem go_if_ne {X : Cx} {G : GT} {h : PH} {k n pc nL : Nat} {lv : List (Option Value)} {rest : List Value} {cc : ByteArray} {own : String} {ret : Option FieldType} {rm : Room} (hC : CxOK X G cc nL own ret rm) {x : Int32} {off : Int} (tgt : Nat) (hd : decode cc pc = .ok (.ifCond .ne off, 3)) (ht : (pc : Int) + off = (tgt : Int)) (kt : ¬ x = 0 → Go X G h k n tgt lv rest) (kf : x = 0 → Go X G h k n (pc + 3) lv rest) : Go X G h k n pc lv (.int x :: rest) :=
  fun H locs cells slots ls hR hS hl q1 q2 => lv_if_ne hC.1 hC.2.1 hd ht (fun q => kt q H locs cells slots ls hR hS hl q1 q2) (fun q => kf q H locs cells slots ls hR hS hl q1 q2)
theorem go_if_lt {X : Cx} {G : GT} {h : PH} {k n pc nL : Nat} {lv : List (Option Value)} {rest : List Value} {cc : ByteArray} {own : String} {ret : Option FieldType} {rm : Room} (hC : CxOK X G cc nL own ret rm) {x : Int32} {off : Int} (tgt : Nat) (hd : decode cc pc = .ok (.ifCond .lt off, 3)) (ht : (pc : Int) + off = (tgt : Int)) (kt : x < 0 → Go X G h k n tgt lv rest) (kf : ¬ x < 0 → Go X G h k n (pc + 3) lv rest) : Go X G h k n pc lv (.int x :: rest) :=
  fun H locs cells slots ls hR hS hl q1 q2 => lv_if_lt hC.1 hC.2.1 hd ht (fun q => kt q H locs cells slots ls hR hS hl q1 q2) (fun q => kf q H locs cells slots ls hR hS hl q1 q2)
theorem go_if_ge {X : Cx} {G : GT} {h : PH} {k n pc nL : Nat} {lv : List (Option Value)} {rest : List Value} {cc : ByteArray} {own : String} {ret : Option FieldType} {rm : Room} (hC : CxOK X G cc nL own ret rm) {x : Int32} {off : Int} (tgt : Nat) (hd : decode cc pc = .ok (.ifCond .ge off, 3)) (ht : (pc : Int) + off = (tgt : Int)) (kt : 0 ≤ x → Go X G h k n tgt lv rest) (kf : ¬ 0 ≤ x → Go X G h k n (pc + 3) lv rest) : Go X G h k n pc lv (.int x :: rest) :=
  fun H locs cells slots ls hR hS hl q1 q2 => lv_if_ge hC.1 hC.2.1 hd ht (fun q => kt q H locs cells slots ls hR hS hl q1 q2) (fun q => kf q H locs cells slots ls hR hS hl q1 q2)
theorem go_if_gt {X : Cx} {G : GT} {h : PH} {k n pc nL : Nat} {lv : List (Option Value)} {rest : List Value} {cc : ByteArray} {own : String} {ret : Option FieldType} {rm : Room} (hC : CxOK X G cc nL own ret rm) {x : Int32} {off : Int} (tgt : Nat) (hd : decode cc pc = .ok (.ifCond .gt off, 3)) (ht : (pc : Int) + off = (tgt : Int)) (kt : 0 < x → Go X G h k n tgt lv rest) (kf : ¬ 0 < x → Go X G h k n (pc + 3) lv rest) : Go X G h k n pc lv (.int x :: rest) :=
  fun H locs cells slots ls hR hS hl q1 q2 => lv_if_gt hC.1 hC.2.1 hd ht (fun q => kt q H locs cells slots ls hR hS hl q1 q2) (fun q => kf q H locs cells slots ls hR hS hl q1 q2)
theorem go_if_le {X : Cx} {G : GT} {h : PH} {k n pc nL : Nat} {lv : List (Option Value)} {rest : List Value} {cc : ByteArray} {own : String} {ret : Option FieldType} {rm : Room} (hC : CxOK X G cc nL own ret rm) {x : Int32} {off : Int} (tgt : Nat) (hd : decode cc pc = .ok (.ifCond .le off, 3)) (ht : (pc : Int) + off = (tgt : Int)) (kt : x ≤ 0 → Go X G h k n tgt lv rest) (kf : ¬ x ≤ 0 → Go X G h k n (pc + 3) lv rest) : Go X G h k n pc lv (.int x :: rest) :=
  fun H locs cells slots ls hR hS hl q1 q2 => lv_if_le hC.1 hC.2.1 hd ht (fun q => kt q H locs cells slots ls hR hS hl q1 q2) (fun q => kf q H locs cells slots ls hR hS hl q1 q2)
theorem go_icmp_eq {X : Cx} {G : GT} {h : PH} {k n pc nL : Nat} {lv : List (Option Value)} {rest : List Value} {cc : ByteArray} {own : String} {ret : Option FieldType} {rm : Room} (hC : CxOK X G cc nL own ret rm) {x y : Int32} {off : Int} (tgt : Nat) (hd : decode cc pc = .ok (.if_icmp .eq off, 3)) (ht : (pc : Int) + off = (tgt : Int)) (kt : x = y → Go X G h k n tgt lv rest) (kf : ¬ x = y → Go X G h k n (pc + 3) lv rest) : Go X G h k n pc lv (.int y :: .int x :: rest) :=
  fun H locs cells slots ls hR hS hl q1 q2 => lv_icmp_eq hC.1 hC.2.1 hd ht (fun q => kt q H locs cells slots ls hR hS hl q1 q2) (fun q => kf q H locs cells slots ls hR hS hl q1 q2)
theorem go_icmp_ne {X : Cx} {G : GT} {h : PH} {k n pc nL : Nat} {lv : List (Option Value)} {rest : List Value} {cc : ByteArray} {own : String} {ret : Option FieldType} {rm : Room} (hC : CxOK X G cc nL own ret rm) {x y : Int32} {off : Int} (tgt : Nat) (hd : decode cc pc = .ok (.if_icmp .ne off, 3)) (ht : (pc : Int) + off = (tgt : Int)) (kt : ¬ x = y → Go X G h k n tgt lv rest) (kf : x = y → Go X G h k n (pc + 3) lv rest) : Go X G h k n pc lv (.int y :: .int x :: rest) :=
  fun H locs cells slots ls hR hS hl q1 q2 => lv_icmp_ne hC.1 hC.2.1 hd ht (fun q => kt q H locs cells slots ls hR hS hl q1 q2) (fun q => kf q H locs cells slots ls hR hS hl q1 q2)
theorem go_icmp_lt {X : Cx} {G : GT} {h : PH} {k n pc nL : Nat} {lv : List (Option Value)} {rest : List Value} {cc : ByteArray} {own : String} {ret : Option FieldType} {rm : Room} (hC : CxOK X G cc nL own ret rm) {x y : Int32} {off : Int} (tgt : Nat) (hd : decode cc pc = .ok (.if_icmp .lt off, 3)) (ht : (pc : Int) + off = (tgt : Int)) (kt : x < y → Go X G h k n tgt lv rest) (kf : ¬ x < y → Go X G h k n (pc + 3) lv rest) : Go X G h k n pc lv (.int y :: .int x :: rest) :=
  fun H locs cells slots ls hR hS hl q1 q2 => lv_icmp_lt hC.1 hC.2.1 hd ht (fun q => kt q H locs cells slots ls hR hS hl q1 q2) (fun q => kf q H locs cells slots ls hR hS hl q1 q2)
theorem go_icmp_ge {X : Cx} {G : GT} {h : PH} {k n pc nL : Nat} {lv : List (Option Value)} {rest : List Value} {cc : ByteArray} {own : String} {ret : Option FieldType} {rm : Room} (hC : CxOK X G cc nL own ret rm) {x y : Int32} {off : Int} (tgt : Nat) (hd : decode cc pc = .ok (.if_icmp .ge off, 3)) (ht : (pc : Int) + off = (tgt : Int)) (kt : y ≤ x → Go X G h k n tgt lv rest) (kf : ¬ y ≤ x → Go X G h k n (pc + 3) lv rest) : Go X G h k n pc lv (.int y :: .int x :: rest) :=
  fun H locs cells slots ls hR hS hl q1 q2 => lv_icmp_ge hC.1 hC.2.1 hd ht (fun q => kt q H locs cells slots ls hR hS hl q1 q2) (fun q => kf q H locs cells slots ls hR hS hl q1 q2)
theorem go_icmp_gt {X : Cx} {G : GT} {h : PH} {k n pc nL : Nat} {lv : List (Option Value)} {rest : List Value} {cc : ByteArray} {own : String} {ret : Option FieldType} {rm : Room} (hC : CxOK X G cc nL own ret rm) {x y : Int32} {off : Int} (tgt : Nat) (hd : decode cc pc = .ok (.if_icmp .gt off, 3)) (ht : (pc : Int) + off = (tgt : Int)) (kt : y < x → Go X G h k n tgt lv rest) (kf : ¬ y < x → Go X G h k n (pc + 3) lv rest) : Go X G h k n pc lv (.int y :: .int x :: rest) :=
  fun H locs cells slots ls hR hS hl q1 q2 => lv_icmp_gt hC.1 hC.2.1 hd ht (fun q => kt q H locs cells slots ls hR hS hl q1 q2) (fun q => kf q H locs cells slots ls hR hS hl q1 q2)
theorem go_icmp_le {X : Cx} {G : GT} {h : PH} {k n pc nL : Nat} {lv : List (Option Value)} {rest : List Value} {cc : ByteArray} {own : String} {ret : Option FieldType} {rm : Room} (hC : CxOK X G cc nL own ret rm) {x y : Int32} {off : Int} (tgt : Nat) (hd : decode cc pc = .ok (.if_icmp .le off, 3)) (ht : (pc : Int) + off = (tgt : Int)) (kt : x ≤ y → Go X G h k n tgt lv rest) (kf : ¬ x ≤ y → Go X G h k n (pc + 3) lv rest) : Go X G h k n pc lv (.int y :: .int x :: rest) :=
  fun H locs cells slots ls hR hS hl q1 q2 => lv_icmp_le hC.1 hC.2.1 hd ht (fun q => kt q H locs cells slots ls hR hS hl q1 q2) (fun q => kf q H locs cells slots ls hR hS hl q1 q2)
theorem go_acmp_eq_rr {X : Cx} {G : GT} {h : PH} {k n pc nL : Nat} {lv : List (Option Value)} {rest : List Value} {cc : ByteArray} {own : String} {ret : Option FieldType} {rm : Room} (hC : CxOK X G cc nL own ret rm) {x : Nat} {y : Nat} {off : Int} (tgt : Nat) (hd : decode cc pc = .ok (.if_acmp .eq off, 3)) (ht : (pc : Int) + off = (tgt : Int)) (kt : ((some x : Option Nat)) = ((some y : Option Nat)) → Go X G h k n tgt lv rest) (kf : ¬ ((some x : Option Nat)) = ((some y : Option Nat)) → Go X G h k n (pc + 3) lv rest) : Go X G h k n pc lv (.ref y :: .ref x :: rest) :=
  fun H locs cells slots ls hR hS hl q1 q2 => lv_acmp_eq (rx := some x) (ry := some y) hC.1 hC.2.1 hd ht (fun q => kt q H locs cells slots ls hR hS hl q1 q2) (fun q => kf q H locs cells slots ls hR hS hl q1 q2)
theorem go_acmp_eq_rn {X : Cx} {G : GT} {h : PH} {k n pc nL : Nat} {lv : List (Option Value)} {rest : List Value} {cc : ByteArray} {own : String} {ret : Option FieldType} {rm : Room} (hC : CxOK X G cc nL own ret rm) {x : Nat} {off : Int} (tgt : Nat) (hd : decode cc pc = .ok (.if_acmp .eq off, 3)) (ht : (pc : Int) + off = (tgt : Int)) (kt : ((some x : Option Nat)) = ((none : Option Nat)) → Go X G h k n tgt lv rest) (kf : ¬ ((some x : Option Nat)) = ((none : Option Nat)) → Go X G h k n (pc + 3) lv rest) : Go X G h k n pc lv (.null :: .ref x :: rest) :=
  fun H locs cells slots ls hR hS hl q1 q2 => lv_acmp_eq (rx := some x) (ry := none) hC.1 hC.2.1 hd ht (fun q => kt q H locs cells slots ls hR hS hl q1 q2) (fun q => kf q H locs cells slots ls hR hS hl q1 q2)
theorem go_acmp_eq_nr {X : Cx} {G : GT} {h : PH} {k n pc nL : Nat} {lv : List (Option Value)} {rest : List Value} {cc : ByteArray} {own : String} {ret : Option FieldType} {rm : Room} (hC : CxOK X G cc nL own ret rm) {y : Nat} {off : Int} (tgt : Nat) (hd : decode cc pc = .ok (.if_acmp .eq off, 3)) (ht : (pc : Int) + off = (tgt : Int)) (kt : ((none : Option Nat)) = ((some y : Option Nat)) → Go X G h k n tgt lv rest) (kf : ¬ ((none : Option Nat)) = ((some y : Option Nat)) → Go X G h k n (pc + 3) lv rest) : Go X G h k n pc lv (.ref y :: .null :: rest) :=
  fun H locs cells slots ls hR hS hl q1 q2 => lv_acmp_eq (rx := none) (ry := some y) hC.1 hC.2.1 hd ht (fun q => kt q H locs cells slots ls hR hS hl q1 q2) (fun q => kf q H locs cells slots ls hR hS hl q1 q2)
theorem go_acmp_eq_nn {X : Cx} {G : GT} {h : PH} {k n pc nL : Nat} {lv : List (Option Value)} {rest : List Value} {cc : ByteArray} {own : String} {ret : Option FieldType} {rm : Room} (hC : CxOK X G cc nL own ret rm)  {off : Int} (tgt : Nat) (hd : decode cc pc = .ok (.if_acmp .eq off, 3)) (ht : (pc : Int) + off = (tgt : Int)) (kt : ((none : Option Nat)) = ((none : Option Nat)) → Go X G h k n tgt lv rest) (kf : ¬ ((none : Option Nat)) = ((none : Option Nat)) → Go X G h k n (pc + 3) lv rest) : Go X G h k n pc lv (.null :: .null :: rest) :=
  fun H locs cells slots ls hR hS hl q1 q2 => lv_acmp_eq (rx := none) (ry := none) hC.1 hC.2.1 hd ht (fun q => kt q H locs cells slots ls hR hS hl q1 q2) (fun q => kf q H locs cells slots ls hR hS hl q1 q2)
theorem go_acmp_ne_rr {X : Cx} {G : GT} {h : PH} {k n pc nL : Nat} {lv : List (Option Value)} {rest : List Value} {cc : ByteArray} {own : String} {ret : Option FieldType} {rm : Room} (hC : CxOK X G cc nL own ret rm) {x : Nat} {y : Nat} {off : Int} (tgt : Nat) (hd : decode cc pc = .ok (.if_acmp .ne off, 3)) (ht : (pc : Int) + off = (tgt : Int)) (kt : ¬ ((some x : Option Nat)) = ((some y : Option Nat)) → Go X G h k n tgt lv rest) (kf : ((some x : Option Nat)) = ((some y : Option Nat)) → Go X G h k n (pc + 3) lv rest) : Go X G h k n pc lv (.ref y :: .ref x :: rest) :=
  fun H locs cells slots ls hR hS hl q1 q2 => lv_acmp_ne (rx := some x) (ry := some y) hC.1 hC.2.1 hd ht (fun q => kt q H locs cells slots ls hR hS hl q1 q2) (fun q => kf q H locs cells slots ls hR hS hl q1 q2)
theorem go_acmp_ne_rn {X : Cx} {G : GT} {h : PH} {k n pc nL : Nat} {lv : List (Option Value)} {rest : List Value} {cc : ByteArray} {own : String} {ret : Option FieldType} {rm : Room} (hC : CxOK X G cc nL own ret rm) {x : Nat} {off : Int} (tgt : Nat) (hd : decode cc pc = .ok (.if_acmp .ne off, 3)) (ht : (pc : Int) + off = (tgt : Int)) (kt : ¬ ((some x : Option Nat)) = ((none : Option Nat)) → Go X G h k n tgt lv rest) (kf : ((some x : Option Nat)) = ((none : Option Nat)) → Go X G h k n (pc + 3) lv rest) : Go X G h k n pc lv (.null :: .ref x :: rest) :=
  fun H locs cells slots ls hR hS hl q1 q2 => lv_acmp_ne (rx := some x) (ry := none) hC.1 hC.2.1 hd ht (fun q => kt q H locs cells slots ls hR hS hl q1 q2) (fun q => kf q H locs cells slots ls hR hS hl q1 q2)
theorem go_acmp_ne_nr {X : Cx} {G : GT} {h : PH} {k n pc nL : Nat} {lv : List (Option Value)} {rest : List Value} {cc : ByteArray} {own : String} {ret : Option FieldType} {rm : Room} (hC : CxOK X G cc nL own ret rm) {y : Nat} {off : Int} (tgt : Nat) (hd : decode cc pc = .ok (.if_acmp .ne off, 3)) (ht : (pc : Int) + off = (tgt : Int)) (kt : ¬ ((none : Option Nat)) = ((some y : Option Nat)) → Go X G h k n tgt lv rest) (kf : ((none : Option Nat)) = ((some y : Option Nat)) → Go X G h k n (pc + 3) lv rest) : Go X G h k n pc lv (.ref y :: .null :: rest) :=
  fun H locs cells slots ls hR hS hl q1 q2 => lv_acmp_ne (rx := none) (ry := some y) hC.1 hC.2.1 hd ht (fun q => kt q H locs cells slots ls hR hS hl q1 q2) (fun q => kf q H locs cells slots ls hR hS hl q1 q2)
theorem go_acmp_ne_nn {X : Cx} {G : GT} {h : PH} {k n pc nL : Nat} {lv : List (Option Value)} {rest : List Value} {cc : ByteArray} {own : String} {ret : Option FieldType} {rm : Room} (hC : CxOK X G cc nL own ret rm)  {off : Int} (tgt : Nat) (hd : decode cc pc = .ok (.if_acmp .ne off, 3)) (ht : (pc : Int) + off = (tgt : Int)) (kt : ¬ ((none : Option Nat)) = ((none : Option Nat)) → Go X G h k n tgt lv rest) (kf : ((none : Option Nat)) = ((none : Option Nat)) → Go X G h k n (pc + 3) lv rest) : Go X G h k n pc lv (.null :: .null :: rest) :=
  fun H locs cells slots ls hR hS hl q1 q2 => lv_acmp_ne (rx := none) (ry := none) hC.1 hC.2.1 hd ht (fun q => kt q H locs cells slots ls hR hS hl q1 q2) (fun q => kf q H locs cells slots ls hR hS hl q1 q2)
theorem go_ifnonnull {X : Cx} {G : GT} {h : PH} {k n pc nL : Nat} {lv : List (Option Value)} {rest : List Value} {cc : ByteArray} {own : String} {ret : Option FieldType} {rm : Room} (hC : CxOK X G cc nL own ret rm) {x : Nat} {off : Int} (tgt : Nat) (hd : decode cc pc = .ok (.ifnonnull off, 3)) (ht : (pc : Int) + off = (tgt : Int)) (kk : Go X G h k n tgt lv rest) : Go X G h k n pc lv (.ref x :: rest) :=
  fun H locs cells slots ls hR hS hl q1 q2 => lv_ifnonnull hC.1 hC.2.1 hd ht (kk H locs cells slots ls hR hS hl q1 q2)
theorem go_ifnull {X : Cx} {G : GT} {h : PH} {k n pc nL : Nat} {lv : List (Option Value)} {rest : List Value} {cc : ByteArray} {own : String} {ret : Option FieldType} {rm : Room} (hC : CxOK X G cc nL own ret rm) {x : Nat} {off : Int}  (hd : decode cc pc = .ok (.ifnull off, 3))  (kk : Go X G h k n (pc + 3) lv rest) : Go X G h k n pc lv (.ref x :: rest) :=
  fun H locs cells slots ls hR hS hl q1 q2 => lv_ifnull hC.1 hC.2.1 hd  (kk H locs cells slots ls hR hS hl q1 q2)
theorem go_ifnullN {X : Cx} {G : GT} {h : PH} {k n pc nL : Nat} {lv : List (Option Value)} {rest : List Value} {cc : ByteArray} {own : String} {ret : Option FieldType} {rm : Room} (hC : CxOK X G cc nL own ret rm)  {off : Int} (tgt : Nat) (hd : decode cc pc = .ok (.ifnull off, 3)) (ht : (pc : Int) + off = (tgt : Int)) (kk : Go X G h k n tgt lv rest) : Go X G h k n pc lv (.null :: rest) :=
  fun H locs cells slots ls hR hS hl q1 q2 => lv_ifnullN hC.1 hC.2.1 hd ht (kk H locs cells slots ls hR hS hl q1 q2)
theorem go_ifnonnullN {X : Cx} {G : GT} {h : PH} {k n pc nL : Nat} {lv : List (Option Value)} {rest : List Value} {cc : ByteArray} {own : String} {ret : Option FieldType} {rm : Room} (hC : CxOK X G cc nL own ret rm)  {off : Int}  (hd : decode cc pc = .ok (.ifnonnull off, 3))  (kk : Go X G h k n (pc + 3) lv rest) : Go X G h k n pc lv (.null :: rest) :=
  fun H locs cells slots ls hR hS hl q1 q2 => lv_ifnonnullN hC.1 hC.2.1 hd  (kk H locs cells slots ls hR hS hl q1 q2)
theorem go_N_eq {X : Cx} {G : GT} {h : PH} {k n pc nL : Nat} {lv : List (Option Value)} {rest : List Value} {cc : ByteArray} {own : String} {ret : Option FieldType} {rm : Room} (hC : CxOK X G cc nL own ret rm) {x y : Int32} {a b : Nat} {off : Int} (tgt : Nat) (hd : decode cc pc = .ok (.if_icmp .eq off, 3)) (ht : (pc : Int) + off = (tgt : Int)) (hx : x = nI a) (hy : y = nI b) (ha : a < 2 ^ 31) (hb : b < 2 ^ 31) (kt : a = b → Go X G h k n tgt lv rest) (kf : ¬ a = b → Go X G h k n (pc + 3) lv rest) : Go X G h k n pc lv (.int y :: .int x :: rest) := by
  subst hx; subst hy
  exact go_icmp_eq hC tgt hd ht (fun q => kt ((nI_eq ha hb).mp q)) (fun q => kf (fun z => q ((nI_eq ha hb).mpr z)))
theorem go_N_ne {X : Cx} {G : GT} {h : PH} {k n pc nL : Nat} {lv : List (Option Value)} {rest : List Value} {cc : ByteArray} {own : String} {ret : Option FieldType} {rm : Room} (hC : CxOK X G cc nL own ret rm) {x y : Int32} {a b : Nat} {off : Int} (tgt : Nat) (hd : decode cc pc = .ok (.if_icmp .ne off, 3)) (ht : (pc : Int) + off = (tgt : Int)) (hx : x = nI a) (hy : y = nI b) (ha : a < 2 ^ 31) (hb : b < 2 ^ 31) (kt : ¬ a = b → Go X G h k n tgt lv rest) (kf : a = b → Go X G h k n (pc + 3) lv rest) : Go X G h k n pc lv (.int y :: .int x :: rest) := by
  subst hx; subst hy
  exact go_icmp_ne hC tgt hd ht (fun q => kt (fun z => q ((nI_eq ha hb).mpr z))) (fun q => kf ((nI_eq ha hb).mp q))
theorem go_N_lt {X : Cx} {G : GT} {h : PH} {k n pc nL : Nat} {lv : List (Option Value)} {rest : List Value} {cc : ByteArray} {own : String} {ret : Option FieldType} {rm : Room} (hC : CxOK X G cc nL own ret rm) {x y : Int32} {a b : Nat} {off : Int} (tgt : Nat) (hd : decode cc pc = .ok (.if_icmp .lt off, 3)) (ht : (pc : Int) + off = (tgt : Int)) (hx : x = nI a) (hy : y = nI b) (ha : a < 2 ^ 31) (hb : b < 2 ^ 31) (kt : a < b → Go X G h k n tgt lv rest) (kf : b ≤ a → Go X G h k n (pc + 3) lv rest) : Go X G h k n pc lv (.int y :: .int x :: rest) := by
  subst hx; subst hy
  exact go_icmp_lt hC tgt hd ht (fun q => kt ((nI_ltI ha hb).mp q)) (fun q => kf (Nat.not_lt.mp (fun z => q ((nI_ltI ha hb).mpr z))))
theorem go_N_ge {X : Cx} {G : GT} {h : PH} {k n pc nL : Nat} {lv : List (Option Value)} {rest : List Value} {cc : ByteArray} {own : String} {ret : Option FieldType} {rm : Room} (hC : CxOK X G cc nL own ret rm) {x y : Int32} {a b : Nat} {off : Int} (tgt : Nat) (hd : decode cc pc = .ok (.if_icmp .ge off, 3)) (ht : (pc : Int) + off = (tgt : Int)) (hx : x = nI a) (hy : y = nI b) (ha : a < 2 ^ 31) (hb : b < 2 ^ 31) (kt : b ≤ a → Go X G h k n tgt lv rest) (kf : a < b → Go X G h k n (pc + 3) lv rest) : Go X G h k n pc lv (.int y :: .int x :: rest) := by
  subst hx; subst hy
  exact go_icmp_ge hC tgt hd ht (fun q => kt ((nI_leI hb ha).mp q)) (fun q => kf (Nat.not_le.mp (fun z => q ((nI_leI hb ha).mpr z))))
theorem go_N_gt {X : Cx} {G : GT} {h : PH} {k n pc nL : Nat} {lv : List (Option Value)} {rest : List Value} {cc : ByteArray} {own : String} {ret : Option FieldType} {rm : Room} (hC : CxOK X G cc nL own ret rm) {x y : Int32} {a b : Nat} {off : Int} (tgt : Nat) (hd : decode cc pc = .ok (.if_icmp .gt off, 3)) (ht : (pc : Int) + off = (tgt : Int)) (hx : x = nI a) (hy : y = nI b) (ha : a < 2 ^ 31) (hb : b < 2 ^ 31) (kt : b < a → Go X G h k n tgt lv rest) (kf : a ≤ b → Go X G h k n (pc + 3) lv rest) : Go X G h k n pc lv (.int y :: .int x :: rest) := by
  subst hx; subst hy
  exact go_icmp_gt hC tgt hd ht (fun q => kt ((nI_ltI hb ha).mp q)) (fun q => kf (Nat.not_lt.mp (fun z => q ((nI_ltI hb ha).mpr z))))
theorem go_N_le {X : Cx} {G : GT} {h : PH} {k n pc nL : Nat} {lv : List (Option Value)} {rest : List Value} {cc : ByteArray} {own : String} {ret : Option FieldType} {rm : Room} (hC : CxOK X G cc nL own ret rm) {x y : Int32} {a b : Nat} {off : Int} (tgt : Nat) (hd : decode cc pc = .ok (.if_icmp .le off, 3)) (ht : (pc : Int) + off = (tgt : Int)) (hx : x = nI a) (hy : y = nI b) (ha : a < 2 ^ 31) (hb : b < 2 ^ 31) (kt : a ≤ b → Go X G h k n tgt lv rest) (kf : b < a → Go X G h k n (pc + 3) lv rest) : Go X G h k n pc lv (.int y :: .int x :: rest) := by
  subst hx; subst hy
  exact go_icmp_le hC tgt hd ht (fun q => kt ((nI_leI ha hb).mp q)) (fun q => kf (Nat.not_le.mp (fun z => q ((nI_leI ha hb).mpr z))))
theorem go_B_eq {X : Cx} {G : GT} {h : PH} {k n pc nL : Nat} {lv : List (Option Value)} {rest : List Value} {cc : ByteArray} {own : String} {ret : Option FieldType} {rm : Room} (hC : CxOK X G cc nL own ret rm) {x : Int32} {b : Bool} {off : Int} (tgt : Nat) (hd : decode cc pc = .ok (.ifCond .eq off, 3)) (ht : (pc : Int) + off = (tgt : Int)) (hx : x = bI b) (kt : b = false → Go X G h k n tgt lv rest) (kf : b = true → Go X G h k n (pc + 3) lv rest) : Go X G h k n pc lv (.int x :: rest) := by
  subst hx
  cases b with
  | true => exact go_if_eq hC tgt hd ht (fun q => absurd q (by decide)) (fun _ => kf rfl)
  | false => exact go_if_eq hC tgt hd ht (fun _ => kt rfl) (fun q => absurd rfl q)
theorem go_B_ne {X : Cx} {G : GT} {h : PH} {k n pc nL : Nat} {lv : List (Option Value)} {rest : List Value} {cc : ByteArray} {own : String} {ret : Option FieldType} {rm : Room} (hC : CxOK X G cc nL own ret rm) {x : Int32} {b : Bool} {off : Int} (tgt : Nat) (hd : decode cc pc = .ok (.ifCond .ne off, 3)) (ht : (pc : Int) + off = (tgt : Int)) (hx : x = bI b) (kt : b = true → Go X G h k n tgt lv rest) (kf : b = false → Go X G h k n (pc + 3) lv rest) : Go X G h k n pc lv (.int x :: rest) := by
  subst hx
  cases b with
  | true => exact go_if_ne hC tgt hd ht (fun _ => kt rfl) (fun q => absurd q (by decide))
  | false => exact go_if_ne hC tgt hd ht (fun q => absurd rfl q) (fun _ => kf rfl)
/-! heap rows -/
def KC (ci : Nat) (C : String) (T : u_T) (N : Nat) (ty : Nat → FieldType) : Prop :=
  gcl[ci]? = some (C, T, N) ∧ (∀ w ∈ u_ws C T N, w ∈ lw_all) ∧ (∀ k, k < N → parseFieldDescriptor (T k).2.2.1 = some (ty k)) ∧ ∀ a, a < N → ∀ b, b < N → a ≠ b → (T a).2.1 ≠ (T b).2.1
theorem kX1 : KC 0 RX1 TX1 5 tyX1 := ⟨rfl, in_X1, tyX1_ok, nmX1⟩
theorem kX2 : KC 1 RX2 TX2 11 tyX2 := ⟨rfl, in_X2, tyX2_ok, nmX2⟩
theorem kX4 : KC 2 RX4 TX4 3 tyX4 := ⟨rfl, in_X4, tyX4_ok, nmX4⟩
theorem kX5 : KC 3 RX5 TX5 1 tyX5 := ⟨rfl, in_X5, tyX5_ok, nmX5⟩
theorem kX6 : KC 4 RX6 TX6 3 tyX6 := ⟨rfl, in_X6, tyX6_ok, nmX6⟩
theorem kX7 : KC 5 RX7 TX7 4 tyX7 := ⟨rfl, in_X7, tyX7_ok, nmX7⟩
theorem kX3 : KC 6 RX3 TX3 16 tyX3 := ⟨rfl, in_X3, tyX3_ok, nmX3⟩
theorem kJ2 : KC 7 RJ2 TJ2 3 tyJ2 := ⟨rfl, in_J2, tyJ2_ok, nmJ2⟩
theorem kJ4 : KC 8 RJ4 TJ4 8 tyJ4 := ⟨rfl, in_J4, tyJ4_ok, nmJ4⟩
theorem kJ23 : KC 9 RJ23 TJ23 4 tyJ23 := ⟨rfl, in_J23, tyJ23_ok, nmJ23⟩
theorem kJ6 : KC 10 RJ6 TJ6 4 tyJ6 := ⟨rfl, in_J6, tyJ6_ok, nmJ6⟩
section HeapRows
variable {X : Cx} {G : GT} {h : PH} {k n pc nL : Nat} {lv : List (Option Value)} {rest : List Value} {cc : ByteArray} {own : String} {ret : Option FieldType} {rm : Room} {a : Nat} {o : Ow}
theorem sameF (hC : CxOK X G cc nL own ret rm) {ref C0 nm d : String} (hs : C0 = ref ∨ Jvm.Cond.sameField ref C0 nm d ∈ lw_all) : ∀ x, (xs X).fieldFound? C0 nm d = some x → (xs X).fieldFound? ref nm d = some x := by
  rcases hs with rfl | hs
  · exact fun x z => z
  · exact u_same (hC.2.2.2.2.1 _ hs)
theorem go_get (hC : CxOK X G cc nL own ret rm) {ref C : String} {T : u_T} {N ci index : Nat} {ty : Nat → FieldType} {fs : List Value} {v : Value} (K : KC ci C T N ty) (hf : h a = some (o, ob ci fs)) (kf : Nat) (hq : Jvm.Cond.fieldLink own index ref (T kf).2.1 (T kf).2.2.1 ∈ lw_all) (hd : decode cc pc = .ok (.getfield index, 3)) (hv : fs[kf]? = some v) (hk : kf < N) (hs : (T kf).1 = ref ∨ Jvm.Cond.sameField ref (T kf).1 (T kf).2.1 (T kf).2.2.1 ∈ lw_all)
    (kk : Go X G h k n (pc + 3) lv (v :: rest)) : Go X G h k n pc lv (.ref a :: rest) := by
  intro H locs cells slots ls hR hS hl q1 q2
  obtain ⟨j, hj⟩ := hR.ix hf
  exact va_get hC.1 hC.2.1 hC.2.2.2.2.1 K.2.1 hC.2.2.2.1 hC.2.2.2.2.2.1.1 hR.P j hj K.1 kf hk (hC.2.2.2.2.1 _ hq) (sameF hC hs) hv hd (kk H locs cells slots ls hR hS hl q1 q2)
theorem xwf {X : Cx} (hC : CxOK X G cc nL own ret rm) {w : Cond} (hw : w ∈ lw_tbl) (hx : xw w = true) (ho : w.onTables = true) : w.before (xa X) (xs X) = true := va_Nw.use ho (hC.2.2.2.2.2.1.2.1 w hw hx)
theorem go_getN (hC : CxOK X G cc nL own ret rm) {ref C host : String} {T : u_T} {N ci index : Nat} {ty : Nat → FieldType} {fs : List Value} {v : Value} (K : KC ci C T N ty) (hf : h a = some (o, ob ci fs)) (kf : Nat) (hq : Jvm.Cond.fieldLinkNest own index ref (T kf).2.1 (T kf).2.2.1 host ∈ lw_tbl) (hd : decode cc pc = .ok (.getfield index, 3)) (hv : fs[kf]? = some v) (hk : kf < N) (hs : (T kf).1 = ref ∨ Jvm.Cond.sameField ref (T kf).1 (T kf).2.1 (T kf).2.2.1 ∈ lw_all)
    (kk : Go X G h k n (pc + 3) lv (v :: rest)) : Go X G h k n pc lv (.ref a :: rest) := by
  intro H locs cells slots ls hR hS hl q1 q2
  obtain ⟨j, hj⟩ := hR.ix hf
  exact va_getN hC.1 hC.2.1 hC.2.2.2.2.1 K.2.1 hC.2.2.2.1 hC.2.2.2.2.2.1.1 hR.P j hj K.1 kf hk (xwf hC hq rfl rfl) (sameF hC hs) hv hd (kk H locs cells slots ls hR hS hl q1 q2)
theorem go_put (hC : CxOK X G cc nL own ret rm) {ref C : String} {T : u_T} {N ci index : Nat} {ty : Nat → FieldType} {fs : List Value} {v : Value} (K : KC ci C T N ty) (hf : h a = some (o, ob ci fs)) (kf : Nat) (hq : Jvm.Cond.fieldLink own index ref (T kf).2.1 (T kf).2.2.1 ∈ lw_all) (hd : decode cc pc = .ok (.putfield index, 3)) (hk : kf < N) (hl0 : kf < fs.length) (hs : (T kf).1 = ref ∨ Jvm.Cond.sameField ref (T kf).1 (T kf).2.1 (T kf).2.2.1 ∈ lw_all) (hfin : (T kf).2.2.2 = false) (hn : narrow (ty kf) v = v) (hfit : fits (ty kf) v = true)
    (kk : Go X G (hu h a o (ob ci (fs.set kf v))) k n (pc + 3) lv rest) : Go X G h k n pc lv (v :: .ref a :: rest) := by
  intro H locs cells slots ls hR hS hl q1 q2
  obtain ⟨j, hj⟩ := hR.ix hf
  exact va_put hC.1 hC.2.1 hC.2.2.2.2.1 K.2.1 ty K.2.2.1 K.2.2.2 hC.2.2.2.1 hC.2.2.2.2.2.1.1 hR.P hR.D hS j hj K.1 kf hk (hC.2.2.2.2.1 _ hq) (sameF hC hs) hfin (K.2.2.1 kf hk) hn hfit hl0 hd (fun H1 locs1 hP1 hD1 hS1 => kk H1 locs1 cells slots ls (hR.set hf hj hP1) hS1 hl q1 q2)
theorem go_putN (hC : CxOK X G cc nL own ret rm) {ref C host : String} {T : u_T} {N ci index : Nat} {ty : Nat → FieldType} {fs : List Value} {v : Value} (K : KC ci C T N ty) (hf : h a = some (o, ob ci fs)) (kf : Nat) (hq : Jvm.Cond.fieldLinkNest own index ref (T kf).2.1 (T kf).2.2.1 host ∈ lw_tbl) (hd : decode cc pc = .ok (.putfield index, 3)) (hk : kf < N) (hl0 : kf < fs.length) (hs : (T kf).1 = ref ∨ Jvm.Cond.sameField ref (T kf).1 (T kf).2.1 (T kf).2.2.1 ∈ lw_all) (hfin : (T kf).2.2.2 = false) (hn : narrow (ty kf) v = v) (hfit : fits (ty kf) v = true)
    (kk : Go X G (hu h a o (ob ci (fs.set kf v))) k n (pc + 3) lv rest) : Go X G h k n pc lv (v :: .ref a :: rest) := by
  intro H locs cells slots ls hR hS hl q1 q2
  obtain ⟨j, hj⟩ := hR.ix hf
  exact va_putN hC.1 hC.2.1 hC.2.2.2.2.1 K.2.1 ty K.2.2.1 K.2.2.2 hC.2.2.2.1 hC.2.2.2.2.2.1.1 hR.P hR.D hS j hj K.1 kf hk (xwf hC hq rfl rfl) (sameF hC hs) hfin (K.2.2.1 kf hk) hn hfit hl0 hd (fun H1 locs1 hP1 hD1 hS1 => kk H1 locs1 cells slots ls (hR.set hf hj hP1) hS1 hl q1 q2)
theorem go_putF (hC : CxOK X G cc nL own ret rm) (hI : (xme X).name = "<init>") {ref C : String} {T : u_T} {N ci index : Nat} {ty : Nat → FieldType} {fs : List Value} {v : Value} (K : KC ci C T N ty) (hf : h a = some (o, ob ci fs)) (kf : Nat) (hq : Jvm.Cond.fieldLink own index ref (T kf).2.1 (T kf).2.2.1 ∈ lw_all) (hd : decode cc pc = .ok (.putfield index, 3)) (hk : kf < N) (hl0 : kf < fs.length) (hs : (T kf).1 = ref ∨ Jvm.Cond.sameField ref (T kf).1 (T kf).2.1 (T kf).2.2.1 ∈ lw_all) (hfin : (T kf).2.2.2 = true) (hdecl : (T kf).1 = own) (hn : narrow (ty kf) v = v) (hfit : fits (ty kf) v = true)
    (kk : Go X G (hu h a o (ob ci (fs.set kf v))) k n (pc + 3) lv rest) : Go X G h k n pc lv (v :: .ref a :: rest) := by
  intro H locs cells slots ls hR hS hl q1 q2
  obtain ⟨j, hj⟩ := hR.ix hf
  exact va_putF hC.1 hC.2.1 hC.2.2.2.2.1 K.2.1 ty K.2.2.1 K.2.2.2 hC.2.2.2.1 hC.2.2.2.2.2.1.1 hR.P hR.D hS j hj K.1 kf hk (hC.2.2.2.2.1 _ hq) (sameF hC hs) hfin hI hdecl (K.2.2.1 kf hk) hn hfit hl0 hd (fun H1 locs1 hP1 hD1 hS1 => kk H1 locs1 cells slots ls (hR.set hf hj hP1) hS1 hl q1 q2)
theorem in_cl {i : Int32} {j m : Nat} (hi : i = nI j) (hj : j < m) (hm : m < 2 ^ 31) : vp_in i m ∧ i.toNatClampNeg = j := by
  subst hi
  exact ⟨vp_in_nI hj hm, nI_clamp (by omega)⟩
theorem go_iald (hC : CxOK X G cc nL own ret rm) {m : Nat} {f : Nat → Int32} {i : Int32} (j : Nat) (hf : h a = some (o, ia G m f)) (hd : decode cc pc = .ok (.iaload, 1)) (hi : i = nI j) (hj : j < m) (hm : m < 2 ^ 31) (kk : Go X G h k n (pc + 1) lv (.int (f j) :: rest)) : Go X G h k n pc lv (.int i :: .ref a :: rest) := by
  intro H locs cells slots ls hR hS hl q1 q2
  obtain ⟨g, hg⟩ := hR.ix hf
  obtain ⟨h1, h2⟩ := in_cl hi hj hm
  refine va_iald hC.1 hC.2.1 hC.2.2.2.2.2.1.1 hR.P g 0 hg rfl h1 hd ?_
  rw [h2]
  exact kk H locs cells slots ls hR hS hl q1 q2
theorem go_zald (hC : CxOK X G cc nL own ret rm) {m : Nat} {f : Nat → Int32} {i : Int32} (j : Nat) (hf : h a = some (o, za G m f)) (hd : decode cc pc = .ok (.baload, 1)) (hi : i = nI j) (hj : j < m) (hm : m < 2 ^ 31) (kk : Go X G h k n (pc + 1) lv (.int (f j) :: rest)) : Go X G h k n pc lv (.int i :: .ref a :: rest) := by
  intro H locs cells slots ls hR hS hl q1 q2
  obtain ⟨g, hg⟩ := hR.ix hf
  obtain ⟨h1, h2⟩ := in_cl hi hj hm
  refine va_zald hC.1 hC.2.1 hC.2.2.2.2.2.1.1 hR.P g 1 hg rfl h1 hd ?_
  rw [h2]
  exact kk H locs cells slots ls hR hS hl q1 q2
theorem go_bald (hC : CxOK X G cc nL own ret rm) {m : Nat} {f : Nat → Int32} {i : Int32} (j : Nat) (hf : h a = some (o, ba G m f)) (hd : decode cc pc = .ok (.baload, 1)) (hi : i = nI j) (hj : j < m) (hm : m < 2 ^ 31) (kk : Go X G h k n (pc + 1) lv (.int (f j) :: rest)) : Go X G h k n pc lv (.int i :: .ref a :: rest) := by
  intro H locs cells slots ls hR hS hl q1 q2
  obtain ⟨g, hg⟩ := hR.ix hf
  obtain ⟨h1, h2⟩ := in_cl hi hj hm
  refine va_bald hC.1 hC.2.1 hC.2.2.2.2.2.1.1 hR.P g 2 hg rfl h1 hd ?_
  rw [h2]
  exact kk H locs cells slots ls hR hS hl q1 q2
theorem go_lald (hC : CxOK X G cc nL own ret rm) {m : Nat} {f : Nat → Int64} {i : Int32} (j : Nat) (hf : h a = some (o, ja G m f)) (hd : decode cc pc = .ok (.laload, 1)) (hi : i = nI j) (hj : j < m) (hm : m < 2 ^ 31) (kk : Go X G h k n (pc + 1) lv (.long (f j) :: rest)) : Go X G h k n pc lv (.int i :: .ref a :: rest) := by
  intro H locs cells slots ls hR hS hl q1 q2
  obtain ⟨g, hg⟩ := hR.ix hf
  obtain ⟨h1, h2⟩ := in_cl hi hj hm
  refine va_lald hC.1 hC.2.1 hC.2.2.2.2.2.1.1 hR.P g 3 hg rfl h1 hd ?_
  rw [h2]
  exact kk H locs cells slots ls hR hS hl q1 q2
theorem go_aald (hC : CxOK X G cc nL own ret rm) {m t : Nat} {E : String} {f : Nat → Option Nat} {i : Int32} {r : Nat} (j : Nat) (hf : h a = some (o, oa G t m f)) (ht : (gtys G)[t]? = some (gA G t, .object E)) (hd : decode cc pc = .ok (.aaload, 1)) (hi : i = nI j) (hj : j < m) (hm : m < 2 ^ 31) (hr : f j = some r) (kk : Go X G h k n (pc + 1) lv (.ref r :: rest)) : Go X G h k n pc lv (.int i :: .ref a :: rest) := by
  intro H locs cells slots ls hR hS hl q1 q2
  obtain ⟨g, hg⟩ := hR.ix hf
  obtain ⟨h1, h2⟩ := in_cl hi hj hm
  refine va_aldq hC.1 hC.2.1 hC.2.2.2.2.2.1.1 hR.P g t hg ht h1 hd ?_
  rw [h2, hr]
  exact kk H locs cells slots ls hR hS hl q1 q2
theorem go_aaldN (hC : CxOK X G cc nL own ret rm) {m t : Nat} {E : String} {f : Nat → Option Nat} {i : Int32} (j : Nat) (hf : h a = some (o, oa G t m f)) (ht : (gtys G)[t]? = some (gA G t, .object E)) (hd : decode cc pc = .ok (.aaload, 1)) (hi : i = nI j) (hj : j < m) (hm : m < 2 ^ 31) (hr : f j = none) (kk : Go X G h k n (pc + 1) lv (.null :: rest)) : Go X G h k n pc lv (.int i :: .ref a :: rest) := by
  intro H locs cells slots ls hR hS hl q1 q2
  obtain ⟨g, hg⟩ := hR.ix hf
  obtain ⟨h1, h2⟩ := in_cl hi hj hm
  refine va_aldq hC.1 hC.2.1 hC.2.2.2.2.2.1.1 hR.P g t hg ht h1 hd ?_
  rw [h2, hr]
  exact kk H locs cells slots ls hR hS hl q1 q2
theorem go_iast (hC : CxOK X G cc nL own ret rm) {m : Nat} {f : Nat → Int32} {i x : Int32} (j : Nat) (hf : h a = some (o, ia G m f)) (hd : decode cc pc = .ok (.iastore, 1)) (hi : i = nI j) (hj : j < m) (hm : m < 2 ^ 31) (kk : Go X G (hu h a o (ia G m (upd f j x))) k n (pc + 1) lv rest) : Go X G h k n pc lv (.int x :: .int i :: .ref a :: rest) := by
  intro H locs cells slots ls hR hS hl q1 q2
  obtain ⟨g, hg⟩ := hR.ix hf
  obtain ⟨h1, h2⟩ := in_cl hi hj hm
  refine va_iast hC.1 hC.2.1 hC.2.2.2.2.2.1.1 hR.P hR.D hS g 0 hg rfl h1 hd (fun H1 locs1 hP1 hD1 hS1 => ?_)
  rw [h2] at hP1
  exact kk H1 locs1 cells slots ls (hR.set hf hg hP1) hS1 hl q1 q2
theorem go_zast (hC : CxOK X G cc nL own ret rm) {m : Nat} {f : Nat → Int32} {i x : Int32} (j : Nat) (hf : h a = some (o, za G m f)) (hd : decode cc pc = .ok (.bastore, 1)) (hi : i = nI j) (hj : j < m) (hm : m < 2 ^ 31) (kk : Go X G (hu h a o (za G m (upd f j (vp_nar .boolean x)))) k n (pc + 1) lv rest) : Go X G h k n pc lv (.int x :: .int i :: .ref a :: rest) := by
  intro H locs cells slots ls hR hS hl q1 q2
  obtain ⟨g, hg⟩ := hR.ix hf
  obtain ⟨h1, h2⟩ := in_cl hi hj hm
  refine va_zast hC.1 hC.2.1 hC.2.2.2.2.2.1.1 hR.P hR.D hS g 1 hg rfl h1 hd (fun H1 locs1 hP1 hD1 hS1 => ?_)
  rw [h2] at hP1
  exact kk H1 locs1 cells slots ls (hR.set hf hg hP1) hS1 hl q1 q2
theorem go_bast (hC : CxOK X G cc nL own ret rm) {m : Nat} {f : Nat → Int32} {i x : Int32} (j : Nat) (hf : h a = some (o, ba G m f)) (hd : decode cc pc = .ok (.bastore, 1)) (hi : i = nI j) (hj : j < m) (hm : m < 2 ^ 31) (kk : Go X G (hu h a o (ba G m (upd f j (vp_nar .byte x)))) k n (pc + 1) lv rest) : Go X G h k n pc lv (.int x :: .int i :: .ref a :: rest) := by
  intro H locs cells slots ls hR hS hl q1 q2
  obtain ⟨g, hg⟩ := hR.ix hf
  obtain ⟨h1, h2⟩ := in_cl hi hj hm
  refine va_bast hC.1 hC.2.1 hC.2.2.2.2.2.1.1 hR.P hR.D hS g 2 hg rfl h1 hd (fun H1 locs1 hP1 hD1 hS1 => ?_)
  rw [h2] at hP1
  exact kk H1 locs1 cells slots ls (hR.set hf hg hP1) hS1 hl q1 q2
theorem go_last (hC : CxOK X G cc nL own ret rm) {m : Nat} {f : Nat → Int64} {i : Int32} {x : Int64} (j : Nat) (hf : h a = some (o, ja G m f)) (hd : decode cc pc = .ok (.lastore, 1)) (hi : i = nI j) (hj : j < m) (hm : m < 2 ^ 31) (kk : Go X G (hu h a o (ja G m (vp_updL f j x))) k n (pc + 1) lv rest) : Go X G h k n pc lv (.long x :: .int i :: .ref a :: rest) := by
  intro H locs cells slots ls hR hS hl q1 q2
  obtain ⟨g, hg⟩ := hR.ix hf
  obtain ⟨h1, h2⟩ := in_cl hi hj hm
  refine va_last hC.1 hC.2.1 hC.2.2.2.2.2.1.1 hR.P hR.D hS g 3 hg rfl h1 hd (fun H1 locs1 hP1 hD1 hS1 => ?_)
  rw [h2] at hP1
  exact kk H1 locs1 cells slots ls (hR.set hf hg hP1) hS1 hl q1 q2
/-- a reference into an array of its own class -/
theorem go_aast (hC : CxOK X G cc nL own ret rm) {m t ci v : Nat} {q : vw_C} {o2 : Ow} {vs : List Value} {f : Nat → Option Nat} {i : Int32} (j : Nat) (hf : h a = some (o, oa G t m f)) (ht : (gtys G)[t]? = some (gA G t, .object q.1)) (hv : h v = some (o2, ob ci vs)) (hc : gcl[ci]? = some q) (hd : decode cc pc = .ok (.aastore, 1)) (hi : i = nI j) (hj : j < m) (hm : m < 2 ^ 31) (kk : Go X G (hu h a o (oa G t m (va_up f j (some v)))) k n (pc + 1) lv rest) : Go X G h k n pc lv (.ref v :: .int i :: .ref a :: rest) := by
  intro H locs cells slots ls hR hS hl q1 q2
  obtain ⟨g, hg⟩ := hR.ix hf
  obtain ⟨g2, hg2⟩ := hR.ix hv
  obtain ⟨h1, h2⟩ := in_cl hi hj hm
  refine va_astq hC.1 hC.2.1 hC.2.2.2.2.2.1.1 hR.P hR.D hS g t g2 ci hg ht hg2 hc h1 hd (fun H1 locs1 hP1 hD1 hS1 => ?_)
  rw [h2] at hP1
  exact kk H1 locs1 cells slots ls (hR.set hf hg hP1) hS1 hl q1 q2
/-- a reference into an array of objects -/
theorem go_aastO (hC : CxOK X G cc nL own ret rm) {m t ci v : Nat} {E : String} {q : vw_C} {o2 : Ow} {vs : List Value} {f : Nat → Option Nat} {i : Int32} (j : Nat) (hf : h a = some (o, oa G t m f)) (ht : (gtys G)[t]? = some (gA G t, .object E)) (hv : h v = some (o2, ob ci vs)) (hc : gcl[ci]? = some q) (hca : Jvm.Cond.castable q.1 E ∈ lw_tbl) (hd : decode cc pc = .ok (.aastore, 1)) (hi : i = nI j) (hj : j < m) (hm : m < 2 ^ 31) (kk : Go X G (hu h a o (oa G t m (va_up f j (some v)))) k n (pc + 1) lv rest) : Go X G h k n pc lv (.ref v :: .int i :: .ref a :: rest) := by
  intro H locs cells slots ls hR hS hl q1 q2
  obtain ⟨g, hg⟩ := hR.ix hf
  obtain ⟨g2, hg2⟩ := hR.ix hv
  obtain ⟨h1, h2⟩ := in_cl hi hj hm
  refine va_astqO hC.1 hC.2.1 hC.2.2.2.2.2.1.1 hR.P hR.D hS g t g2 ci hg ht (hC.2.2.2.2.2.1.2.1 _ hca rfl) hg2 hc h1 hd (fun H1 locs1 hP1 hD1 hS1 => ?_)
  rw [h2] at hP1
  exact kk H1 locs1 cells slots ls (hR.set hf hg hP1) hS1 hl q1 q2
theorem go_aastN (hC : CxOK X G cc nL own ret rm) {m t : Nat} {E : String} {f : Nat → Option Nat} {i : Int32} (j : Nat) (hf : h a = some (o, oa G t m f)) (ht : (gtys G)[t]? = some (gA G t, .object E)) (hd : decode cc pc = .ok (.aastore, 1)) (hi : i = nI j) (hj : j < m) (hm : m < 2 ^ 31) (kk : Go X G (hu h a o (oa G t m (va_up f j none))) k n (pc + 1) lv rest) : Go X G h k n pc lv (.null :: .int i :: .ref a :: rest) := by
  intro H locs cells slots ls hR hS hl q1 q2
  obtain ⟨g, hg⟩ := hR.ix hf
  obtain ⟨h1, h2⟩ := in_cl hi hj hm
  refine va_astqN hC.1 hC.2.1 hC.2.2.2.2.2.1.1 hR.P hR.D hS g t hg ht h1 hd (fun H1 locs1 hP1 hD1 hS1 => ?_)
  rw [h2] at hP1
  exact kk H1 locs1 cells slots ls (hR.set hf hg hP1) hS1 hl q1 q2
theorem go_alen (hC : CxOK X G cc nL own ret rm) {t : Nat} {ty : FieldType} {x : vp_A} (hf : h a = some (o, .inl (gA G t, x))) (ht : (gtys G)[t]? = some (gA G t, ty)) (hd : decode cc pc = .ok (.arraylength, 1)) (kk : Go X G h k n (pc + 1) lv (.int (nI x.1) :: rest)) : Go X G h k n pc lv (.ref a :: rest) := by
  intro H locs cells slots ls hR hS hl q1 q2
  obtain ⟨g, hg⟩ := hR.ix hf
  exact va_alen hC.1 hC.2.1 hC.2.2.2.2.2.1.1 hR.P g t hg ht rfl hd (kk H locs cells slots ls hR hS hl q1 q2)
theorem RA_uniq {s : State} {c1 c2 : ClassId} {ty : FieldType} (h1 : va_RA s c1 ty) (h2 : va_RA s c2 ty) : c1 = c2 := by
  cases ty with
  | object C =>
    obtain ⟨_, _, -, -, -, e1⟩ := h1
    obtain ⟨_, _, -, -, -, e2⟩ := h2
    exact Option.some.inj (e1.symm.trans e2)
  | _ => exact Option.some.inj ((show s.vm.findClass _ = some c1 from h1).symm.trans h2)
theorem hA_of (hC : CxOK X G cc nL own ret rm) : ∀ q : Nat, (xs X).heap.size ≤ q → gF G q := fun q hq => Nat.le_trans hC.2.2.2.2.2.2.1 hq
theorem go_newa (hC : CxOK X G cc nL own ret rm) {atype : ArrayType} {ty : FieldType} (t m : Nat) (ol : Nat → Ow) {a0 : vp_A} (hq : Jvm.Cond.arrayClass (newarray.typeOf atype) ∈ lw_all) (hty : newarray.typeOf atype = ty) (ht : (gtys G)[t]? = some (gA G t, ty)) (ha : ∀ cA : ClassId, vp_cell cA a0 = arrV cA m (fun _ => defaultValue ty)) {i : Int32} (hi : i = nI m) (hm : m < 65536) (hb : componentBytes ty ≤ 8) (hk : 1 ≤ k) (hn : m ≤ n) (hd : decode cc pc = .ok (.newarray atype, 2))
    (kk : ∀ q : Nat, h q = none → gb G ≤ q → Go X G (hu h q (ol q) (.inl (gA G t, a0))) (k - 1) (n - m) (pc + 2) lv (.ref q :: rest)) : Go X G h k n pc lv (.int i :: rest) := by
  intro H locs cells slots ls hR hS hl q1 q2
  subst hi
  have hbytes : m * componentBytes ty ≤ 536870912 := Nat.le_trans (Nat.mul_le_mul (Nat.le_of_lt hm) hb) (Nat.le_of_ble_eq_true rfl)
  refine va_newa hC.1 hC.2.1 (hC.2.2.2.2.1 _ hq) hty hC.2.2.2.2.2.1.1 hR.P hR.D hS (hA_of hC) ha (nI_pos (by omega)) (nI_clamp (by omega)) hbytes (by omega) (by omega) hd (fun q cA H1 hK1 hP1 hD1 hS1 => ?_)
  have hcA : cA = gA G t := RA_uniq (hK1.2 7 (cA, ty) rfl).2 (hC.2.2.2.2.2.1.1.2 t _ ht).2
  subst hcA
  obtain ⟨g1, g2, g3⟩ := hR.push (ol q) hP1 hD1
  exact kk q g1 g2 H1 locs (cells + 1) (slots + m) ls g3 hS1 hl (by omega) (by omega)
theorem go_newq (hC : CxOK X G cc nL own ret rm) {C : String} {index : Nat} (t m : Nat) (ol : Nat → Ow) (hcl : Jvm.Cond.classLink own index C ∈ lw_all) (hov : va_AO C (xs X)) (ht : (gtys G)[t]? = some (gA G t, .object C)) {i : Int32} (hi : i = nI m) (hm : m < 65536) (hk : 1 ≤ k) (hn : m ≤ n) (hd : decode cc pc = .ok (.anewarray index, 3))
    (kk : ∀ q : Nat, h q = none → gb G ≤ q → Go X G (hu h q (ol q) (oa G t m (fun _ => none))) (k - 1) (n - m) (pc + 3) lv (.ref q :: rest)) : Go X G h k n pc lv (.int i :: rest) := by
  intro H locs cells slots ls hR hS hl q1 q2
  subst hi
  refine va_newq hC.1 hC.2.1 hC.2.2.2.1 (hC.2.2.2.2.1 _ hcl) hov hC.2.2.2.2.2.1.1 hR.P hR.D hS (hA_of hC) (nI_pos (by omega)) (nI_clamp (by omega)) (by omega) (by omega) (by omega) hd (fun q cA H1 hK1 hP1 hD1 hS1 => ?_)
  have hcA : cA = gA G t := RA_uniq (hK1.2 7 (cA, .object C) rfl).2 (hC.2.2.2.2.2.1.1.2 t _ ht).2
  subst hcA
  obtain ⟨g1, g2, g3⟩ := hR.push (ol q) hP1 hD1
  exact kk q g1 g2 H1 locs (cells + 1) (slots + m) ls g3 hS1 hl (by omega) (by omega)
theorem go_new (hC : CxOK X G cc nL own ret rm) {C : String} {T : u_T} {N ci index : Nat} {ty : Nat → FieldType} (K : KC ci C T N ty) (fs : List Value) (ol : Nat → Ow) (hcl : Jvm.Cond.classLink own index C ∈ lw_all) (hins : Jvm.Cond.instantiable C N ∈ lw_all) (hini : Jvm.Cond.initialized C ∈ lw_all) (hfs : ∀ j, j < N → defaultValue (ty j) = vp_V fs j) (hk : 1 ≤ k) (hn : N ≤ n) (hd : decode cc pc = .ok (.new index, 3))
    (kk : ∀ q : Nat, h q = none → gb G ≤ q → Go X G (hu h q (ol q) (ob ci fs)) (k - 1) (n - N) (pc + 3) lv (.ref q :: rest)) : Go X G h k n pc lv rest := by
  intro H locs cells slots ls hR hS hl q1 q2
  refine va_new hC.1 hC.2.1 hC.2.2.2.2.1 K.2.1 ty K.2.2.1 hC.2.2.2.1 (hC.2.2.2.2.1 _ hcl) (hC.2.2.2.2.1 _ hins) (hC.2.2.2.2.1 _ hini) hC.2.2.2.2.2.1.1 hR.P hR.D hS (hA_of hC) K.1 hfs (by omega) (by omega) hd (fun q H1 hP1 hD1 hS1 => ?_)
  obtain ⟨g1, g2, g3⟩ := hR.push (ol q) hP1 hD1
  exact kk q g1 g2 H1 locs (cells + 1) (slots + N) ls g3 hS1 hl (by omega) (by omega)
theorem go_objI (hC : CxOK X G cc nL own ret rm) {idx : Nat} (hq : Jvm.Cond.methodLink own idx Lib.objectInit ∈ lw_all) (hi : Jvm.Cond.instanceMethod Lib.objectInit ∈ lw_all) (hc : Jvm.Cond.code Lib.objectInit ⟨#[0xb1]⟩ 1 none ∈ lw_all) (hst : (rest.map fun v => v.category).sum ≤ 8) (hrm : 1 ≤ rm.frames ∧ 20 ≤ rm.locals) (hd : decode cc pc = .ok (.invokespecial idx, 3)) (kk : Go X G h k n (pc + 3) lv rest) : Go X G h k n pc lv (.ref a :: rest) := by
  intro H locs cells slots ls hR hS hl q1 q2
  refine W.objInit hC.1 hC.2.1 hC.2.2.2.1 (hC.2.2.2.2.1 _ hq) (hC.2.2.2.2.1 _ hi) (hC.2.2.2.2.1 _ hc) rfl hl.1 rfl hd (by rw [hC.2.2.2.2.2.2.2.2.2.1]; exact hrm.1) ?_ (kk H locs cells slots ls hR hS hl q1 q2)
  rw [hC.2.2.2.2.2.2.2.2.2.1]
  have : 2 * (F0 (xm X) pc ls (.ref a :: rest)).monitorRoom + (rest.map fun v => v.category).sum ≤ 8 := lv_room hst
  omega
theorem go_gets (hC : CxOK X G cc nL own ret rm) {C nm d ref : String} {v : Value} {index : Nat} (hZ : va_Z C nm d v (gF G) (xs X) (xs X).heap) (hq : Jvm.Cond.fieldLink own index ref nm d ∈ lw_all) (hs : C = ref) (hd : decode cc pc = .ok (.getstatic index, 3)) (kk : Go X G h k n (pc + 3) lv (v :: rest)) : Go X G h k n pc lv rest := by
  intro H locs cells slots ls hR hS hl q1 q2
  subst hs
  exact va_gets hC.1 hC.2.1 hZ hS hC.2.2.2.1 (hC.2.2.2.2.1 _ hq) (fun _ z => z) hd (kk H locs cells slots ls hR hS hl q1 q2)
theorem go_ti (hC : CxOK X G cc nL own ret rm) {t N : Nat} {f : Nat → Value} {i : Int32} (j : Nat) (hT : va_T .int t N f (gF G) (xs X) (xs X).heap) (hi : i = nI j) (hj : j < N) (hm : N < 2 ^ 31) (hd : decode cc pc = .ok (.iaload, 1)) (kk : Go X G h k n (pc + 1) lv (f j :: rest)) : Go X G h k n pc lv (.int i :: .ref t :: rest) := by
  intro H locs cells slots ls hR hS hl q1 q2
  obtain ⟨h1, h2⟩ := in_cl hi hj hm
  exact va_ti hC.1 hC.2.1 hT hS h1 (by rw [h2]) hd (kk H locs cells slots ls hR hS hl q1 q2)
theorem go_tlen (hC : CxOK X G cc nL own ret rm) {t N : Nat} {ty : FieldType} {f : Nat → Value} (hT : va_T ty t N f (gF G) (xs X) (xs X).heap) (hd : decode cc pc = .ok (.arraylength, 1)) (kk : Go X G h k n (pc + 1) lv (.int (nI N) :: rest)) : Go X G h k n pc lv (.ref t :: rest) := by
  intro H locs cells slots ls hR hS hl q1 q2
  exact va_tlen hC.1 hC.2.1 hT hS rfl hd (kk H locs cells slots ls hR hS hl q1 q2)
theorem go_max (hC : CxOK X G cc nL own ret rm) {index : Nat} {x y : Int32} (hq : Jvm.Cond.methodLink own index Lib.Math.max.name ∈ lw_all) (hst : Jvm.Cond.static Lib.Math.max.name ∈ lw_all) (hini : Jvm.Cond.initialized "java/lang/Math" ∈ lw_all) (hcode : Jvm.Cond.code Lib.Math.max.name Lib.Math.max.code 2 (some .int) ∈ lw_all) (hrm : 1 ≤ rm.frames ∧ 21 ≤ rm.locals) (hcat : (rest.map fun v => v.category).sum ≤ 8) (hd : decode cc pc = .ok (.invokestatic index, 3)) (kk : Go X G h k n (pc + 3) lv (.int (if x < y then y else x) :: rest)) : Go X G h k n pc lv (.int y :: .int x :: rest) := by
  intro H locs cells slots ls hR hS hl q1 q2
  have hr := hC.2.2.2.2.2.2.2.2.2.1
  exact va_mmax hC.1 hC.2.1 hl.1.symm hC.2.2.2.1 (hC.2.2.2.2.1 _ hq) (hC.2.2.2.2.1 _ hst) (hC.2.2.2.2.1 _ hini) (hC.2.2.2.2.1 _ hcode) (by rw [hr]; exact hrm.1) (by rw [hr]; omega) (by omega) (by omega) hd (kk H locs cells slots ls hR hS hl q1 q2)
theorem go_min (hC : CxOK X G cc nL own ret rm) {index : Nat} {x y : Int32} (hq : Jvm.Cond.methodLink own index Lib.Math.min.name ∈ lw_all) (hst : Jvm.Cond.static Lib.Math.min.name ∈ lw_all) (hini : Jvm.Cond.initialized "java/lang/Math" ∈ lw_all) (hcode : Jvm.Cond.code Lib.Math.min.name Lib.Math.min.code 2 (some .int) ∈ lw_all) (hrm : 1 ≤ rm.frames ∧ 21 ≤ rm.locals) (hcat : (rest.map fun v => v.category).sum ≤ 8) (hd : decode cc pc = .ok (.invokestatic index, 3)) (kk : Go X G h k n (pc + 3) lv (.int (if y < x then y else x) :: rest)) : Go X G h k n pc lv (.int y :: .int x :: rest) := by
  intro H locs cells slots ls hR hS hl q1 q2
  have hr := hC.2.2.2.2.2.2.2.2.2.1
  exact va_mmin hC.1 hC.2.1 hl.1.symm hC.2.2.2.1 (hC.2.2.2.2.1 _ hq) (hC.2.2.2.2.1 _ hst) (hC.2.2.2.2.1 _ hini) (hC.2.2.2.2.1 _ hcode) (by rw [hr]; exact hrm.1) (by rw [hr]; omega) (by omega) (by omega) hd (kk H locs cells slots ls hR hS hl q1 q2)
theorem go_abs (hC : CxOK X G cc nL own ret rm) {index : Nat} {x : Int32} (hq : Jvm.Cond.methodLink own index Lib.Math.abs.name ∈ lw_all) (hst : Jvm.Cond.static Lib.Math.abs.name ∈ lw_all) (hini : Jvm.Cond.initialized "java/lang/Math" ∈ lw_all) (hcode : Jvm.Cond.code Lib.Math.abs.name Lib.Math.abs.code 1 (some .int) ∈ lw_all) (hrm : 1 ≤ rm.frames ∧ 21 ≤ rm.locals) (hcat : (rest.map fun v => v.category).sum ≤ 8) (hd : decode cc pc = .ok (.invokestatic index, 3)) (kk : Go X G h k n (pc + 3) lv (.int (if 0 ≤ x then x else 0 - x) :: rest)) : Go X G h k n pc lv (.int x :: rest) := by
  intro H locs cells slots ls hR hS hl q1 q2
  have hr := hC.2.2.2.2.2.2.2.2.2.1
  exact va_mabs hC.1 hC.2.1 hl.1.symm hC.2.2.2.1 (hC.2.2.2.2.1 _ hq) (hC.2.2.2.2.1 _ hst) (hC.2.2.2.2.1 _ hini) (hC.2.2.2.2.1 _ hcode) (by rw [hr]; exact hrm.1) (by rw [hr]; omega) (by omega) (by omega) hd (kk H locs cells slots ls hR hS hl q1 q2)
/-- System.arraycopy between two arrays of ints (booleans, bytes) -/
theorem go_copyi (hC : CxOK X G cc nL own ret rm) {index t a0 m0 m1 : Nat} {o0 : Ow} {ty : FieldType} {f g : Nat → Int32} {i0 i1 i2 : Int32} (sp dp c : Nat) (hq : Jvm.Cond.methodLink own index arraycopyName ∈ lw_all) (hnat : Jvm.Cond.native arraycopyName ∈ lw_all) (hst : Jvm.Cond.static arraycopyName ∈ lw_all) (hini : Jvm.Cond.initialized "java/lang/System" ∈ lw_all)
    (ht : (gtys G)[t]? = some (gA G t, ty)) (hprim : refKind ty = false) (hf0 : h a0 = some (o0, .inl (gA G t, m0, .inl f))) (hf : h a = some (o, .inl (gA G t, m1, .inl g))) (e0 : i0 = nI sp) (e1 : i1 = nI dp) (e2 : i2 = nI c) (h4 : sp + c ≤ m0) (h5 : dp + c ≤ m1) (hm0 : m0 < 2 ^ 31) (hm1 : m1 < 2 ^ 31) (hfit : ∀ i, i < c → fits ty (.int (f (sp + i))) = true)
    (hrm : 1 ≤ rm.frames ∧ 80 ≤ rm.locals) (hcat : (rest.map fun v => v.category).sum ≤ 8) (hd : decode cc pc = .ok (.invokestatic index, 3)) (kk : Go X G (hu h a o (.inl (gA G t, m1, .inl (va_cpy f g sp dp c)))) k n (pc + 3) lv rest) : Go X G h k n pc lv (.int i2 :: .int i1 :: .ref a :: .int i0 :: .ref a0 :: rest) := by
  intro H locs cells slots ls hR hS hl q1 q2
  have hr := hC.2.2.2.2.2.2.2.2.2.1
  obtain ⟨g0, hg0⟩ := hR.ix hf0
  obtain ⟨g1, hg1⟩ := hR.ix hf
  subst e0; subst e1; subst e2
  have c0 : (nI sp).toNatClampNeg = sp := nI_clamp (by omega)
  have c1 : (nI dp).toNatClampNeg = dp := nI_clamp (by omega)
  have c2 : (nI c).toNatClampNeg = c := nI_clamp (by omega)
  have hw : nativeFrameWords "java/lang/System" "arraycopy" 5 + 11 ≤ 72 := by decide +kernel
  refine va_copyi hC.1 hC.2.1 hl.1.symm hC.2.2.2.1 (hC.2.2.2.2.1 _ hq) (hC.2.2.2.2.1 _ hnat) (hC.2.2.2.2.1 _ hst) (hC.2.2.2.2.1 _ hini) hC.2.2.2.2.2.1.1 hR.P hR.D hS g0 g1 t t hg0 hg1 ht ht hprim (nI_pos (by omega)) (nI_pos (by omega)) (nI_pos (by omega)) (by rw [c0, c2]; exact h4) (by rw [c1, c2]; exact h5) (by rw [c0, c2]; exact hfit) (by rw [hr]; exact hrm.1) (by rw [hr]; omega) hd (fun H1 locs1 hP1 hD1 hS1 => ?_)
  rw [c0, c1, c2] at hP1
  exact kk H1 locs1 cells slots ls (hR.set hf hg1 hP1) hS1 hl q1 q2
/-- System.arraycopy between two arrays of references to objects of one class -/
theorem go_copyq (hC : CxOK X G cc nL own ret rm) {index t a0 m0 m1 ci : Nat} {o0 : Ow} {E C : String} {q : vw_C} {f g : Nat → Option Nat} {i0 i1 i2 : Int32} (sp dp c : Nat) (hq : Jvm.Cond.methodLink own index arraycopyName ∈ lw_all) (hnat : Jvm.Cond.native arraycopyName ∈ lw_all) (hst : Jvm.Cond.static arraycopyName ∈ lw_all) (hini : Jvm.Cond.initialized "java/lang/System" ∈ lw_all)
    (ht : (gtys G)[t]? = some (gA G t, .object E)) (hf0 : h a0 = some (o0, oa G t m0 f)) (hf : h a = some (o, oa G t m1 g)) (e0 : i0 = nI sp) (e1 : i1 = nI dp) (e2 : i2 = nI c) (h4 : sp + c ≤ m0) (h5 : dp + c ≤ m1) (hm0 : m0 < 2 ^ 31) (hm1 : m1 < 2 ^ 31) (hcl : gcl[ci]? = some q) (hel : ∀ i, i < c → ∀ y : Nat, f (sp + i) = some y → ∃ (o2 : Ow) (vs : List Value), h y = some (o2, ob ci vs)) (hca : Jvm.Cond.castable q.1 E ∈ lw_tbl)
    (hrm : 1 ≤ rm.frames ∧ 80 ≤ rm.locals) (hcat : (rest.map fun v => v.category).sum ≤ 8) (hd : decode cc pc = .ok (.invokestatic index, 3)) (kk : Go X G (hu h a o (oa G t m1 (va_cpy f g sp dp c))) k n (pc + 3) lv rest) : Go X G h k n pc lv (.int i2 :: .int i1 :: .ref a :: .int i0 :: .ref a0 :: rest) := by
  intro H locs cells slots ls hR hS hl q1 q2
  have hr := hC.2.2.2.2.2.2.2.2.2.1
  obtain ⟨g0, hg0⟩ := hR.ix hf0
  obtain ⟨g1, hg1⟩ := hR.ix hf
  subst e0; subst e1; subst e2
  have c0 : (nI sp).toNatClampNeg = sp := nI_clamp (by omega)
  have c1 : (nI dp).toNatClampNeg = dp := nI_clamp (by omega)
  have c2 : (nI c).toNatClampNeg = c := nI_clamp (by omega)
  have hw : nativeFrameWords "java/lang/System" "arraycopy" 5 + 11 ≤ 72 := by decide +kernel
  refine va_copyq hC.1 hC.2.1 hl.1.symm hC.2.2.2.1 (hC.2.2.2.2.1 _ hq) (hC.2.2.2.2.1 _ hnat) (hC.2.2.2.2.1 _ hst) (hC.2.2.2.2.1 _ hini) hC.2.2.2.2.2.1.1 hR.P hR.D hS g0 g1 t t (C := q.1) hg0 hg1 ht ht (nI_pos (by omega)) (nI_pos (by omega)) (nI_pos (by omega)) (by rw [c0, c2]; exact h4) (by rw [c1, c2]; exact h5) ?_ ?_ (by rw [hr]; exact hrm.1) (by rw [hr]; omega) hd (fun H1 locs1 hP1 hD1 hS1 => ?_)
  · rw [c0, c2]
    intro i hi y hy
    obtain ⟨o2, vs, hv⟩ := hel i hi y hy
    exact hR.recv hC.2.2.2.2.2.1.1 hv hcl
  · intro comp c9 hcomp hc9
    obtain ⟨x1, x2, f1, f2, f3⟩ := Cond.castable_spec (xwf hC hca rfl rfl)
    cases f1.symm.trans hc9
    cases f2.symm.trans hcomp
    exact f3
  · rw [c0, c1, c2] at hP1
    exact kk H1 locs1 cells slots ls (hR.set hf hg1 hP1) hS1 hl q1 q2
theorem go_cast (hC : CxOK X G cc nL own ret rm) {ci index : Nat} {q : vw_C} {nm : String} {fs : List Value} (hf : h a = some (o, ob ci fs)) (hcl : gcl[ci]? = some q) (hq : Jvm.Cond.classLink own index nm ∈ lw_all) (hs : q.1 = nm) (hd : decode cc pc = .ok (.checkcast index, 3)) (kk : Go X G h k n (pc + 3) lv (.ref a :: rest)) : Go X G h k n pc lv (.ref a :: rest) := by
  intro H locs cells slots ls hR hS hl q1 q2
  subst hs
  exact va_castS hC.1 hC.2.1 hC.2.2.2.1 (hC.2.2.2.2.1 _ hq) (hC.2.2.2.2.2.1.1.1 ci q hcl).2 (hR.recv hC.2.2.2.2.2.1.1 hf hcl) hd (kk H locs cells slots ls hR hS hl q1 q2)
theorem go_castN (hC : CxOK X G cc nL own ret rm) {index : Nat} (hd : decode cc pc = .ok (.checkcast index, 3)) (kk : Go X G h k n (pc + 3) lv (.null :: rest)) : Go X G h k n pc lv (.null :: rest) := by
  intro H locs cells slots ls hR hS hl q1 q2
  exact lv_castN hC.1 hC.2.1 hd (kk H locs cells slots ls hR hS hl q1 q2)
theorem go_inst (hC : CxOK X G cc nL own ret rm) {ci index : Nat} {q : vw_C} {nm : String} {fs : List Value} (hf : h a = some (o, ob ci fs)) (hcl : gcl[ci]? = some q) (hq : Jvm.Cond.classLink own index nm ∈ lw_all) (hs : q.1 = nm) (hd : decode cc pc = .ok (.instanceof index, 3)) (kk : Go X G h k n (pc + 3) lv (.int 1 :: rest)) : Go X G h k n pc lv (.ref a :: rest) := by
  intro H locs cells slots ls hR hS hl q1 q2
  subst hs
  exact va_instS hC.1 hC.2.1 hC.2.2.2.1 (hC.2.2.2.2.1 _ hq) (hC.2.2.2.2.2.1.1.1 ci q hcl).2 (hR.recv hC.2.2.2.2.2.1.1 hf hcl) hd (kk H locs cells slots ls hR hS hl q1 q2)
theorem go_instNo (hC : CxOK X G cc nL own ret rm) {ci index : Nat} {q : vw_C} {nm : String} {fs : List Value} (hf : h a = some (o, ob ci fs)) (hcl : gcl[ci]? = some q) (hq : Jvm.Cond.classLink own index nm ∈ lw_all) (hno : va_Nc q.1 nm (xs X)) (hd : decode cc pc = .ok (.instanceof index, 3)) (kk : Go X G h k n (pc + 3) lv (.int 0 :: rest)) : Go X G h k n pc lv (.ref a :: rest) := by
  intro H locs cells slots ls hR hS hl q1 q2
  exact va_instNo hC.1 hC.2.1 hC.2.2.2.1 (hC.2.2.2.2.1 _ hq) hno (hR.recv hC.2.2.2.2.2.1.1 hf hcl) hd (kk H locs cells slots ls hR hS hl q1 q2)
theorem go_tabIn (hC : CxOK X G cc nL own ret rm) {dflt lo hi off : Int} {offs : Array Int} {len : Nat} {x : Int32} (tgt : Nat) (hd : decode cc pc = .ok (.tableswitch dflt lo hi offs, len)) (h1 : ¬ x.toInt < lo) (h2 : ¬ hi < x.toInt) (ho : offs[(x.toInt - lo).toNat]? = some off) (ht : (pc : Int) + off = (tgt : Int)) (kk : Go X G h k n tgt lv rest) : Go X G h k n pc lv (.int x :: rest) :=
  fun H locs cells slots ls hR hS hl q1 q2 => lv_tableIn hC.1 hC.2.1 hd h1 h2 ho ht (kk H locs cells slots ls hR hS hl q1 q2)
theorem go_tabOut (hC : CxOK X G cc nL own ret rm) {dflt lo hi : Int} {offs : Array Int} {len : Nat} {x : Int32} (tgt : Nat) (hd : decode cc pc = .ok (.tableswitch dflt lo hi offs, len)) (h1 : x.toInt < lo ∨ hi < x.toInt) (ht : (pc : Int) + dflt = (tgt : Int)) (kk : Go X G h k n tgt lv rest) : Go X G h k n pc lv (.int x :: rest) :=
  fun H locs cells slots ls hR hS hl q1 q2 => lv_tableOut hC.1 hC.2.1 hd h1 ht (kk H locs cells slots ls hR hS hl q1 q2)
/-! ends -/
variable {Q : Option Value → PH → Prop} {QE : String → PH → Prop}
theorem qc_of {s t : State} {H : Heap} {locs : List Loc} {v : Option Value} (hR : pR G h H) (hS : va_S (gF G) s.heap H locs) (hq : Q v h) (ht : t.heap = H) (a0 : Array Value) : QC G Q a0 s (.returned v) t := ⟨⟨v, h, rfl, hq, by rw [ht]; exact hR⟩, hS.F ht⟩
theorem go_iret (hC : CxOK X G cc nL own ret rm) (hF : FinOK X G Q QE) {x : Int32} {ty : FieldType} (hd : decode cc pc = .ok (.ireturn, 1)) (hr : ret = some ty) (hn : narrow ty (.int x) = .int x) (hq : Q (some (.int x)) h) : Go X G h k n pc lv [.int x] := by
  intro H locs cells slots ls hR hS hl q1 q2
  rw [show xq X = _ from hF]
  refine vx_ret (W.widen (Nat.le_trans (Nat.le_add_right _ _) q1) (Nat.le_trans (Nat.le_add_right _ _) q2) ?_)
  exact W.zret hC.1 hC.2.1 (hC.2.2.2.2.2.2.2.1.trans hr) hn (fun t ht hW => qc_of hR hS hq ht _) hS.2.2 hd hC.2.2.2.2.2.2.2.2.1
theorem go_lret (hC : CxOK X G cc nL own ret rm) (hF : FinOK X G Q QE) {x : Int64} (hd : decode cc pc = .ok (.lreturn, 1)) (hr : ret = some .long) (hq : Q (some (.long x)) h) : Go X G h k n pc lv [.long x] := by
  intro H locs cells slots ls hR hS hl q1 q2
  rw [show xq X = _ from hF]
  refine vx_ret (W.widen (Nat.le_trans (Nat.le_add_right _ _) q1) (Nat.le_trans (Nat.le_add_right _ _) q2) ?_)
  exact W.lret hC.1 hC.2.1 (hC.2.2.2.2.2.2.2.1.trans hr) (fun t ht hW => qc_of hR hS hq ht _) hS.2.2 hd hC.2.2.2.2.2.2.2.2.1
theorem go_dret (hC : CxOK X G cc nL own ret rm) (hF : FinOK X G Q QE) {x : UInt64} (hd : decode cc pc = .ok (.dreturn, 1)) (hr : ret = some .double) (hq : Q (some (.double x)) h) : Go X G h k n pc lv [.double x] := by
  intro H locs cells slots ls hR hS hl q1 q2
  rw [show xq X = _ from hF]
  refine vx_ret (W.widen (Nat.le_trans (Nat.le_add_right _ _) q1) (Nat.le_trans (Nat.le_add_right _ _) q2) ?_)
  exact W.dret hC.1 hC.2.1 (hC.2.2.2.2.2.2.2.1.trans hr) (fun t ht hW => qc_of hR hS hq ht _) hS.2.2 hd hC.2.2.2.2.2.2.2.2.1
theorem go_vret (hC : CxOK X G cc nL own ret rm) (hF : FinOK X G Q QE) (hd : decode cc pc = .ok (.return_, 1)) (hr : ret = none) (hq : Q none h) : Go X G h k n pc lv [] := by
  intro H locs cells slots ls hR hS hl q1 q2
  rw [show xq X = _ from hF]
  refine vx_ret (W.widen (Nat.le_trans (Nat.le_add_right _ _) q1) (Nat.le_trans (Nat.le_add_right _ _) q2) ?_)
  exact W.vret hC.1 hC.2.1 (hC.2.2.2.2.2.2.2.1.trans hr) (fun t ht hW => qc_of hR hS hq ht _) hS.2.2 hd hC.2.2.2.2.2.2.2.2.1
theorem go_aret (hC : CxOK X G cc nL own ret rm) (hF : FinOK X G Q QE) {v : Value} {rt : FieldType} (hd : decode cc pc = .ok (.areturn, 1)) (hr : ret = some rt) (hrt : (∃ s, rt = .object s) ∨ ∃ t, rt = .array t) (hv : v = .null ∨ ∃ a, v = .ref a) (hq : Q (some v) h) : Go X G h k n pc lv [v] := by
  intro H locs cells slots ls hR hS hl q1 q2
  rw [show xq X = _ from hF]
  refine vx_ret (W.widen (Nat.le_trans (Nat.le_add_right _ _) q1) (Nat.le_trans (Nat.le_add_right _ _) q2) ?_)
  exact W.aret hC.1 hC.2.1 (hC.2.2.2.2.2.2.2.1.trans hr) hrt hv (fun t ht hW => qc_of hR hS hq ht _) hS.2.2 hd hC.2.2.2.2.2.2.2.2.1
/-! calls -/
def psh : Option Value → List Value → List Value
  | none, r => r
  | some a, r => a :: r
theorem psh_eq (v : Option Value) (r : List Value) : v.toList ++ r = psh v r := by cases v <;> rfl
theorem PC.blind {G : GT} {h : PH} {as : List Value} : FrameBlind (va_Pc as (PC G h)) := by
  intro a0 U g mk q
  obtain ⟨q0, q1, q2, q3⟩ := q
  exact ⟨q0, q1, q2, q3.blind⟩
theorem PC.now (hC : CxOK X G cc nL own ret rm) {H : Heap} {locs : List Loc} (hR : pR G h H) (hS : va_S (gF G) (xs X).heap H locs) {as : List Value} : ∀ U : State, U.heap = H → (xs X).WarmedH U.vm → va_Pc as (PC G h) as.toArray U := by
  intro U hU hW
  exact ⟨rfl, by rw [hU]; exact Nat.le_trans hC.2.2.2.2.2.2.1 hS.1, by rw [hU]; exact hR, hC.2.2.2.2.2.1.call hS hU hW⟩
theorem run_go {g : JFrame} {rest2 : List Value} {a0 : Array Value} {mc ms : Nat} {H : Heap} {locs : List Loc} {cells slots : Nat} {ls : Array Slot} {st0 : List Value} (hg : g = F0 (xm X) pc ls st0)
    (hr : vx_Run (xp X) (gl G) (xe X) (xR X) (xs X) (xm X) (xa X) (xb X) (xme X) (xc X) H locs cells slots mc ms g rest2 (QC G Q a0) (QX G QE) (gF G)) (hS : va_S (gF G) (xs X).heap H locs) (hl : lv_has ls (xc X).maxLocals (las 0 lv)) (q1 : cells + k ≤ (xR X).cells) (q2 : slots + n ≤ (xR X).slots) (hk : mc ≤ k) (hn : ms ≤ n)
    (kx : ∀ (E : String) (h' : PH), QE E h' → GoX X G h' (k - mc) (n - ms) pc lv E) (kk : ∀ (v : Option Value) (h' : PH), Q v h' → Go X G h' (k - mc) (n - ms) (pc + 3) lv (psh v rest2)) :
    W (xp X) (gl G) (xe X) (xR X) (xs X) (xm X) (xa X) (xb X) (xme X) (xc X) H locs cells slots (xq X) g := by
  subst hg
  intro T hT Xs
  rcases hr T hT Xs with ⟨v, st₀, t, T', L, h0, X', hL, e1, e2, ⟨⟨v', h', hv, hp, hb⟩, hF⟩, st⟩ | ⟨q, st₀, t, T', L, E, ce, h0, X', hL, e1, e2, ⟨⟨h', hp, hb⟩, hF⟩, hce, hcv, hcl, st⟩
  · cases hv
    obtain ⟨k1, k2, k3⟩ := vx_keep h0 e1 hS (fun q _ z => z) (fun q z => z) hL hF
    rw [psh_eq] at st
    obtain ⟨t2, a1, b1⟩ := kk v h' hp T'.heap (locs ++ L) (cells + mc) (slots + ms) ls (by rw [e1]; exact hb) k3 hl (by omega) (by omega) T' rfl X'
    exact ⟨t2, st t2 a1, b1⟩
  · obtain ⟨k1, k2, k3⟩ := vx_keep h0 e1 hS (fun q _ z => z) (fun q z => z) hL hF
    obtain ⟨t2, a1, b1⟩ := kx E h' hp T'.heap (locs ++ L) (cells + mc) (slots + ms) ls rest2 ce q (by rw [e1]; exact hb) k3 hl (by omega) (by omega) (by rw [e1]; exact hce) hcv hcl T' rfl X'
    exact ⟨t2, st.trans a1, b1⟩
variable {y : MethodName} {bytes : ByteArray} {maxL index : Nat} {ret2 : Option FieldType} {rm2 : Room} {b : Nat} {As st0 : List Value}
theorem go_callVX (hC : CxOK X G cc nL own ret rm) {ci : Nat} {fs : List Value} {q : vw_C} (hM : CT G y bytes maxL ret2 rm2 (.ref b :: As) h Q QE) (hw : GoodIn lw_all (wsV own index q.1 y (ws_ y bytes maxL ret2))) (hb : h b = some (o, ob ci fs)) (hcl : gcl[ci]? = some q) (hd : decode cc pc = .ok (.invokevirtual index, 3)) (na : Nat) (hst : st0 = As.reverse ++ .ref b :: rest)
    (hy : y.cls = q.1 ∧ y.cls ≠ "java/lang/invoke/MethodHandle" ∧ y.cls ≠ "java/lang/invoke/VarHandle" ∧ (parseMethodDescriptor y.desc).map (fun d => d.parameters.length) = some na) (hna : As.length = na) (hrm : rm2.frames + 1 ≤ rm.frames ∧ 8 + (maxL + 11) + rm2.locals ≤ rm.locals) (hcat : (rest.map fun v => v.category).sum ≤ 8) (hk : rm2.cells ≤ k) (hn : rm2.slots ≤ n)
    (kx : ∀ (E : String) (h' : PH), QE E h' → GoX X G h' (k - rm2.cells) (n - rm2.slots) pc lv E) (kk : ∀ (v : Option Value) (h' : PH), Q v h' → Go X G h' (k - rm2.cells) (n - rm2.slots) (pc + 3) lv (psh v rest)) : Go X G h k n pc lv st0 := by
  intro H locs cells slots ls hR hS hl q1 q2
  have hr := hC.2.2.2.2.2.2.2.2.2.1
  subst hst
  subst hna
  exact run_go rfl (vx_runV ⟨hC.1, hC.2.1, hC.2.2.1, hC.2.2.2.1, hC.2.2.2.2.1⟩ (hM hC.2.2.2.2.2.2.2.2.2.2) (cwV As.length hC.2.2.2.2.1 hw rfl rfl rfl hy (by rw [hr]; exact hrm)) ⟨PC.blind, hR.recv hC.2.2.2.2.2.1.1 hb hcl, PC.now hC hR hS⟩ rfl rfl (hl.1.trans hC.2.2.1) rfl (lv_room hcat) hd ⟨by omega, by omega⟩) hS hl q1 q2 hk hn kx kk
theorem go_callSX (hC : CxOK X G cc nL own ret rm) (hM : CT G y bytes maxL ret2 rm2 As h Q QE) (hw : GoodIn lw_all (va_wsS own index y (ws_ y bytes maxL ret2))) (hd : decode cc pc = .ok (.invokestatic index, 3)) (na : Nat) (hst : st0 = As.reverse ++ rest)
    (hy : y.cls ≠ "java/lang/invoke/MethodHandle" ∧ y.cls ≠ "java/lang/invoke/VarHandle" ∧ (parseMethodDescriptor y.desc).map (fun d => d.parameters.length) = some na) (hna : As.length = na) (hrm : rm2.frames + 1 ≤ rm.frames ∧ 8 + (maxL + 11) + rm2.locals ≤ rm.locals) (hcat : (rest.map fun v => v.category).sum ≤ 8) (hk : rm2.cells ≤ k) (hn : rm2.slots ≤ n)
    (kx : ∀ (E : String) (h' : PH), QE E h' → GoX X G h' (k - rm2.cells) (n - rm2.slots) pc lv E) (kk : ∀ (v : Option Value) (h' : PH), Q v h' → Go X G h' (k - rm2.cells) (n - rm2.slots) (pc + 3) lv (psh v rest)) : Go X G h k n pc lv st0 := by
  intro H locs cells slots ls hR hS hl q1 q2
  have hr := hC.2.2.2.2.2.2.2.2.2.1
  subst hst
  subst hna
  exact run_go rfl (vx_runS ⟨hC.1, hC.2.1, hC.2.2.1, hC.2.2.2.1, hC.2.2.2.2.1⟩ (hM hC.2.2.2.2.2.2.2.2.2.2) (va_cwS As.length hC.2.2.2.2.1 hw rfl rfl rfl hy (by rw [hr]; exact hrm)) ⟨PC.blind, PC.now hC hR hS⟩ rfl rfl (hl.1.trans hC.2.2.1) rfl (lv_room hcat) hd ⟨by omega, by omega⟩) hS hl q1 q2 hk hn kx kk
theorem go_callIX (hC : CxOK X G cc nL own ret rm) (hM : CT G y bytes maxL none rm2 (.ref b :: As) h Q QE) (hcode : Jvm.Cond.code y bytes maxL none ∈ lw_all) (hini : Jvm.Cond.initialized y.cls ∈ lw_all) (hq : Jvm.Cond.methodLink own index y ∈ lw_all) (hin : Jvm.Cond.instanceMethod y ∈ lw_all) (hnm : y.name = "<init>") (hd : decode cc pc = .ok (.invokespecial index, 3)) (na : Nat) (hst : st0 = As.reverse ++ .ref b :: rest)
    (hy : y.cls ≠ "java/lang/invoke/MethodHandle" ∧ y.cls ≠ "java/lang/invoke/VarHandle" ∧ (parseMethodDescriptor y.desc).map (fun d => d.parameters.length) = some na) (hna : As.length = na) (hrm : rm2.frames + 1 ≤ rm.frames ∧ 8 + (maxL + 11) + rm2.locals ≤ rm.locals) (hcat : (rest.map fun v => v.category).sum ≤ 8) (hk : rm2.cells ≤ k) (hn : rm2.slots ≤ n)
    (kx : ∀ (E : String) (h' : PH), QE E h' → GoX X G h' (k - rm2.cells) (n - rm2.slots) pc lv E) (kk : ∀ (v : Option Value) (h' : PH), Q v h' → Go X G h' (k - rm2.cells) (n - rm2.slots) (pc + 3) lv (psh v rest)) : Go X G h k n pc lv st0 := by
  intro H locs cells slots ls hR hS hl q1 q2
  have hr := hC.2.2.2.2.2.2.2.2.2.1
  subst hst
  subst hna
  exact run_go rfl (vx_runI ⟨hC.1, hC.2.1, hC.2.2.1, hC.2.2.2.1, hC.2.2.2.2.1⟩ (hM hC.2.2.2.2.2.2.2.2.2.2) (cwI As.length hC.2.2.2.2.1 (lw_meth hcode) rfl rfl rfl (hC.2.2.2.2.1 _ hini) (hC.2.2.2.2.1 _ hq) (hC.2.2.2.2.1 _ hin) hnm hy (by rw [hr]; exact hrm)) ⟨PC.blind, PC.now hC hR hS⟩ rfl rfl (hl.1.trans hC.2.2.1) rfl (lv_room hcat) hd ⟨by omega, by omega⟩) hS hl q1 q2 hk hn kx kk
theorem go_callINX (hC : CxOK X G cc nL own ret rm) {host : String} (hM : CT G y bytes maxL none rm2 (.ref b :: As) h Q QE) (hcode : Jvm.Cond.code y bytes maxL none ∈ lw_all) (hini : Jvm.Cond.initialized y.cls ∈ lw_all) (hq : Jvm.Cond.methodLinkNest own index y host ∈ lw_tbl) (hin : Jvm.Cond.instanceMethod y ∈ lw_all) (hnm : y.name = "<init>") (hd : decode cc pc = .ok (.invokespecial index, 3)) (na : Nat) (hst : st0 = As.reverse ++ .ref b :: rest)
    (hy : y.cls ≠ "java/lang/invoke/MethodHandle" ∧ y.cls ≠ "java/lang/invoke/VarHandle" ∧ (parseMethodDescriptor y.desc).map (fun d => d.parameters.length) = some na) (hna : As.length = na) (hrm : rm2.frames + 1 ≤ rm.frames ∧ 8 + (maxL + 11) + rm2.locals ≤ rm.locals) (hcat : (rest.map fun v => v.category).sum ≤ 8) (hk : rm2.cells ≤ k) (hn : rm2.slots ≤ n)
    (kx : ∀ (E : String) (h' : PH), QE E h' → GoX X G h' (k - rm2.cells) (n - rm2.slots) pc lv E) (kk : ∀ (v : Option Value) (h' : PH), Q v h' → Go X G h' (k - rm2.cells) (n - rm2.slots) (pc + 3) lv (psh v rest)) : Go X G h k n pc lv st0 := by
  intro H locs cells slots ls hR hS hl q1 q2
  have hr := hC.2.2.2.2.2.2.2.2.2.1
  subst hst
  subst hna
  exact run_go rfl (vx_runIN ⟨hC.1, hC.2.1, hC.2.2.1, hC.2.2.2.1, hC.2.2.2.2.1⟩ (hM hC.2.2.2.2.2.2.2.2.2.2) ⟨va_cnB As.length hC.2.2.2.2.1 (lw_meth hcode) rfl rfl rfl (hC.2.2.2.2.2.1.2.1 _ hq rfl) (hC.2.2.2.2.1 _ hini) hy (by rw [hr]; exact hrm), hnm, hC.2.2.2.2.1 _ hin⟩ ⟨PC.blind, PC.now hC hR hS⟩ rfl rfl (hl.1.trans hC.2.2.1) rfl (lv_room hcat) hd ⟨by omega, by omega⟩) hS hl q1 q2 hk hn kx kk
theorem go_callSNX (hC : CxOK X G cc nL own ret rm) {host : String} (hM : CT G y bytes maxL ret2 rm2 As h Q QE) (hcode : Jvm.Cond.code y bytes maxL ret2 ∈ lw_all) (hini : Jvm.Cond.initialized y.cls ∈ lw_all) (hq : Jvm.Cond.methodLinkNest own index y host ∈ lw_tbl) (hin : Jvm.Cond.static y ∈ lw_all) (hd : decode cc pc = .ok (.invokestatic index, 3)) (na : Nat) (hst : st0 = As.reverse ++ rest)
    (hy : y.cls ≠ "java/lang/invoke/MethodHandle" ∧ y.cls ≠ "java/lang/invoke/VarHandle" ∧ (parseMethodDescriptor y.desc).map (fun d => d.parameters.length) = some na) (hna : As.length = na) (hrm : rm2.frames + 1 ≤ rm.frames ∧ 8 + (maxL + 11) + rm2.locals ≤ rm.locals) (hcat : (rest.map fun v => v.category).sum ≤ 8) (hk : rm2.cells ≤ k) (hn : rm2.slots ≤ n)
    (kx : ∀ (E : String) (h' : PH), QE E h' → GoX X G h' (k - rm2.cells) (n - rm2.slots) pc lv E) (kk : ∀ (v : Option Value) (h' : PH), Q v h' → Go X G h' (k - rm2.cells) (n - rm2.slots) (pc + 3) lv (psh v rest)) : Go X G h k n pc lv st0 := by
  intro H locs cells slots ls hR hS hl q1 q2
  have hr := hC.2.2.2.2.2.2.2.2.2.1
  subst hst
  subst hna
  exact run_go rfl (vx_runSN ⟨hC.1, hC.2.1, hC.2.2.1, hC.2.2.2.1, hC.2.2.2.2.1⟩ (hM hC.2.2.2.2.2.2.2.2.2.2) ⟨va_cnB As.length hC.2.2.2.2.1 (lw_meth hcode) rfl rfl rfl (hC.2.2.2.2.2.1.2.1 _ hq rfl) (hC.2.2.2.2.1 _ hini) hy (by rw [hr]; exact hrm), hC.2.2.2.2.1 _ hin, trivial⟩ ⟨PC.blind, PC.now hC hR hS⟩ rfl rfl (hl.1.trans hC.2.2.1) rfl (lv_room hcat) hd ⟨by omega, by omega⟩) hS hl q1 q2 hk hn kx kk
/-! callees that don't throw -/
theorem go_callV (hC : CxOK X G cc nL own ret rm) {ci : Nat} {fs : List Value} {q : vw_C} (hM : CT G y bytes maxL ret2 rm2 (.ref b :: As) h Q noX) (hw : GoodIn lw_all (wsV own index q.1 y (ws_ y bytes maxL ret2))) (hb : h b = some (o, ob ci fs)) (hcl : gcl[ci]? = some q) (hd : decode cc pc = .ok (.invokevirtual index, 3)) (na : Nat) (hst : st0 = As.reverse ++ .ref b :: rest)
    (hy : y.cls = q.1 ∧ y.cls ≠ "java/lang/invoke/MethodHandle" ∧ y.cls ≠ "java/lang/invoke/VarHandle" ∧ (parseMethodDescriptor y.desc).map (fun d => d.parameters.length) = some na) (hna : As.length = na) (hrm : rm2.frames + 1 ≤ rm.frames ∧ 8 + (maxL + 11) + rm2.locals ≤ rm.locals) (hcat : (rest.map fun v => v.category).sum ≤ 8) (hk : rm2.cells ≤ k) (hn : rm2.slots ≤ n)
    (kk : ∀ (v : Option Value) (h' : PH), Q v h' → Go X G h' (k - rm2.cells) (n - rm2.slots) (pc + 3) lv (psh v rest)) : Go X G h k n pc lv st0 :=
  go_callVX hC hM hw hb hcl hd na hst hy hna hrm hcat hk hn (fun E h' z => z.elim) kk
theorem go_callS (hC : CxOK X G cc nL own ret rm) (hM : CT G y bytes maxL ret2 rm2 As h Q noX) (hw : GoodIn lw_all (va_wsS own index y (ws_ y bytes maxL ret2))) (hd : decode cc pc = .ok (.invokestatic index, 3)) (na : Nat) (hst : st0 = As.reverse ++ rest)
    (hy : y.cls ≠ "java/lang/invoke/MethodHandle" ∧ y.cls ≠ "java/lang/invoke/VarHandle" ∧ (parseMethodDescriptor y.desc).map (fun d => d.parameters.length) = some na) (hna : As.length = na) (hrm : rm2.frames + 1 ≤ rm.frames ∧ 8 + (maxL + 11) + rm2.locals ≤ rm.locals) (hcat : (rest.map fun v => v.category).sum ≤ 8) (hk : rm2.cells ≤ k) (hn : rm2.slots ≤ n)
    (kk : ∀ (v : Option Value) (h' : PH), Q v h' → Go X G h' (k - rm2.cells) (n - rm2.slots) (pc + 3) lv (psh v rest)) : Go X G h k n pc lv st0 :=
  go_callSX hC hM hw hd na hst hy hna hrm hcat hk hn (fun E h' z => z.elim) kk
theorem go_callI (hC : CxOK X G cc nL own ret rm) (hM : CT G y bytes maxL none rm2 (.ref b :: As) h Q noX) (hcode : Jvm.Cond.code y bytes maxL none ∈ lw_all) (hini : Jvm.Cond.initialized y.cls ∈ lw_all) (hq : Jvm.Cond.methodLink own index y ∈ lw_all) (hin : Jvm.Cond.instanceMethod y ∈ lw_all) (hnm : y.name = "<init>") (hd : decode cc pc = .ok (.invokespecial index, 3)) (na : Nat) (hst : st0 = As.reverse ++ .ref b :: rest)
    (hy : y.cls ≠ "java/lang/invoke/MethodHandle" ∧ y.cls ≠ "java/lang/invoke/VarHandle" ∧ (parseMethodDescriptor y.desc).map (fun d => d.parameters.length) = some na) (hna : As.length = na) (hrm : rm2.frames + 1 ≤ rm.frames ∧ 8 + (maxL + 11) + rm2.locals ≤ rm.locals) (hcat : (rest.map fun v => v.category).sum ≤ 8) (hk : rm2.cells ≤ k) (hn : rm2.slots ≤ n)
    (kk : ∀ (v : Option Value) (h' : PH), Q v h' → Go X G h' (k - rm2.cells) (n - rm2.slots) (pc + 3) lv (psh v rest)) : Go X G h k n pc lv st0 :=
  go_callIX hC hM hcode hini hq hin hnm hd na hst hy hna hrm hcat hk hn (fun E h' z => z.elim) kk
theorem go_callIN (hC : CxOK X G cc nL own ret rm) {host : String} (hM : CT G y bytes maxL none rm2 (.ref b :: As) h Q noX) (hcode : Jvm.Cond.code y bytes maxL none ∈ lw_all) (hini : Jvm.Cond.initialized y.cls ∈ lw_all) (hq : Jvm.Cond.methodLinkNest own index y host ∈ lw_tbl) (hin : Jvm.Cond.instanceMethod y ∈ lw_all) (hnm : y.name = "<init>") (hd : decode cc pc = .ok (.invokespecial index, 3)) (na : Nat) (hst : st0 = As.reverse ++ .ref b :: rest)
    (hy : y.cls ≠ "java/lang/invoke/MethodHandle" ∧ y.cls ≠ "java/lang/invoke/VarHandle" ∧ (parseMethodDescriptor y.desc).map (fun d => d.parameters.length) = some na) (hna : As.length = na) (hrm : rm2.frames + 1 ≤ rm.frames ∧ 8 + (maxL + 11) + rm2.locals ≤ rm.locals) (hcat : (rest.map fun v => v.category).sum ≤ 8) (hk : rm2.cells ≤ k) (hn : rm2.slots ≤ n)
    (kk : ∀ (v : Option Value) (h' : PH), Q v h' → Go X G h' (k - rm2.cells) (n - rm2.slots) (pc + 3) lv (psh v rest)) : Go X G h k n pc lv st0 :=
  go_callINX hC hM hcode hini hq hin hnm hd na hst hy hna hrm hcat hk hn (fun E h' z => z.elim) kk
theorem go_callSN (hC : CxOK X G cc nL own ret rm) {host : String} (hM : CT G y bytes maxL ret2 rm2 As h Q noX) (hcode : Jvm.Cond.code y bytes maxL ret2 ∈ lw_all) (hini : Jvm.Cond.initialized y.cls ∈ lw_all) (hq : Jvm.Cond.methodLinkNest own index y host ∈ lw_tbl) (hin : Jvm.Cond.static y ∈ lw_all) (hd : decode cc pc = .ok (.invokestatic index, 3)) (na : Nat) (hst : st0 = As.reverse ++ rest)
    (hy : y.cls ≠ "java/lang/invoke/MethodHandle" ∧ y.cls ≠ "java/lang/invoke/VarHandle" ∧ (parseMethodDescriptor y.desc).map (fun d => d.parameters.length) = some na) (hna : As.length = na) (hrm : rm2.frames + 1 ≤ rm.frames ∧ 8 + (maxL + 11) + rm2.locals ≤ rm.locals) (hcat : (rest.map fun v => v.category).sum ≤ 8) (hk : rm2.cells ≤ k) (hn : rm2.slots ≤ n)
    (kk : ∀ (v : Option Value) (h' : PH), Q v h' → Go X G h' (k - rm2.cells) (n - rm2.slots) (pc + 3) lv (psh v rest)) : Go X G h k n pc lv st0 :=
  go_callSNX hC hM hcode hini hq hin hd na hst hy hna hrm hcat hk hn (fun E h' z => z.elim) kk
/-! callees that make nothing -/
theorem go_callV0 (hC : CxOK X G cc nL own ret rm) {ci : Nat} {fs : List Value} {q : vw_C} (hM : CT G y bytes maxL ret2 rm2 (.ref b :: As) h Q noX) (hw : GoodIn lw_all (wsV own index q.1 y (ws_ y bytes maxL ret2))) (hb : h b = some (o, ob ci fs)) (hcl : gcl[ci]? = some q) (hd : decode cc pc = .ok (.invokevirtual index, 3)) (na : Nat) (hst : st0 = As.reverse ++ .ref b :: rest)
    (hy : y.cls = q.1 ∧ y.cls ≠ "java/lang/invoke/MethodHandle" ∧ y.cls ≠ "java/lang/invoke/VarHandle" ∧ (parseMethodDescriptor y.desc).map (fun d => d.parameters.length) = some na) (hna : As.length = na) (hrm : rm2.frames + 1 ≤ rm.frames ∧ 8 + (maxL + 11) + rm2.locals ≤ rm.locals) (hcat : (rest.map fun v => v.category).sum ≤ 8) (hz : rm2.cells = 0 ∧ rm2.slots = 0)
    (kk : ∀ (v : Option Value) (h' : PH), Q v h' → Go X G h' k n (pc + 3) lv (psh v rest)) : Go X G h k n pc lv st0 :=
  go_callVX hC hM hw hb hcl hd na hst hy hna hrm hcat (by rw [hz.1]; exact Nat.zero_le _) (by rw [hz.2]; exact Nat.zero_le _) (fun E h' z => z.elim) (fun v h' q => by rw [hz.1, hz.2]; exact kk v h' q)
theorem go_callS0 (hC : CxOK X G cc nL own ret rm) (hM : CT G y bytes maxL ret2 rm2 As h Q noX) (hw : GoodIn lw_all (va_wsS own index y (ws_ y bytes maxL ret2))) (hd : decode cc pc = .ok (.invokestatic index, 3)) (na : Nat) (hst : st0 = As.reverse ++ rest)
    (hy : y.cls ≠ "java/lang/invoke/MethodHandle" ∧ y.cls ≠ "java/lang/invoke/VarHandle" ∧ (parseMethodDescriptor y.desc).map (fun d => d.parameters.length) = some na) (hna : As.length = na) (hrm : rm2.frames + 1 ≤ rm.frames ∧ 8 + (maxL + 11) + rm2.locals ≤ rm.locals) (hcat : (rest.map fun v => v.category).sum ≤ 8) (hz : rm2.cells = 0 ∧ rm2.slots = 0)
    (kk : ∀ (v : Option Value) (h' : PH), Q v h' → Go X G h' k n (pc + 3) lv (psh v rest)) : Go X G h k n pc lv st0 :=
  go_callSX hC hM hw hd na hst hy hna hrm hcat (by rw [hz.1]; exact Nat.zero_le _) (by rw [hz.2]; exact Nat.zero_le _) (fun E h' z => z.elim) (fun v h' q => by rw [hz.1, hz.2]; exact kk v h' q)
theorem go_callI0 (hC : CxOK X G cc nL own ret rm) (hM : CT G y bytes maxL none rm2 (.ref b :: As) h Q noX) (hcode : Jvm.Cond.code y bytes maxL none ∈ lw_all) (hini : Jvm.Cond.initialized y.cls ∈ lw_all) (hq : Jvm.Cond.methodLink own index y ∈ lw_all) (hin : Jvm.Cond.instanceMethod y ∈ lw_all) (hnm : y.name = "<init>") (hd : decode cc pc = .ok (.invokespecial index, 3)) (na : Nat) (hst : st0 = As.reverse ++ .ref b :: rest)
    (hy : y.cls ≠ "java/lang/invoke/MethodHandle" ∧ y.cls ≠ "java/lang/invoke/VarHandle" ∧ (parseMethodDescriptor y.desc).map (fun d => d.parameters.length) = some na) (hna : As.length = na) (hrm : rm2.frames + 1 ≤ rm.frames ∧ 8 + (maxL + 11) + rm2.locals ≤ rm.locals) (hcat : (rest.map fun v => v.category).sum ≤ 8) (hz : rm2.cells = 0 ∧ rm2.slots = 0)
    (kk : ∀ (v : Option Value) (h' : PH), Q v h' → Go X G h' k n (pc + 3) lv (psh v rest)) : Go X G h k n pc lv st0 :=
  go_callIX hC hM hcode hini hq hin hnm hd na hst hy hna hrm hcat (by rw [hz.1]; exact Nat.zero_le _) (by rw [hz.2]; exact Nat.zero_le _) (fun E h' z => z.elim) (fun v h' q => by rw [hz.1, hz.2]; exact kk v h' q)
theorem go_callIN0 (hC : CxOK X G cc nL own ret rm) {host : String} (hM : CT G y bytes maxL none rm2 (.ref b :: As) h Q noX) (hcode : Jvm.Cond.code y bytes maxL none ∈ lw_all) (hini : Jvm.Cond.initialized y.cls ∈ lw_all) (hq : Jvm.Cond.methodLinkNest own index y host ∈ lw_tbl) (hin : Jvm.Cond.instanceMethod y ∈ lw_all) (hnm : y.name = "<init>") (hd : decode cc pc = .ok (.invokespecial index, 3)) (na : Nat) (hst : st0 = As.reverse ++ .ref b :: rest)
    (hy : y.cls ≠ "java/lang/invoke/MethodHandle" ∧ y.cls ≠ "java/lang/invoke/VarHandle" ∧ (parseMethodDescriptor y.desc).map (fun d => d.parameters.length) = some na) (hna : As.length = na) (hrm : rm2.frames + 1 ≤ rm.frames ∧ 8 + (maxL + 11) + rm2.locals ≤ rm.locals) (hcat : (rest.map fun v => v.category).sum ≤ 8) (hz : rm2.cells = 0 ∧ rm2.slots = 0)
    (kk : ∀ (v : Option Value) (h' : PH), Q v h' → Go X G h' k n (pc + 3) lv (psh v rest)) : Go X G h k n pc lv st0 :=
  go_callINX hC hM hcode hini hq hin hnm hd na hst hy hna hrm hcat (by rw [hz.1]; exact Nat.zero_le _) (by rw [hz.2]; exact Nat.zero_le _) (fun E h' z => z.elim) (fun v h' q => by rw [hz.1, hz.2]; exact kk v h' q)
theorem go_callSN0 (hC : CxOK X G cc nL own ret rm) {host : String} (hM : CT G y bytes maxL ret2 rm2 As h Q noX) (hcode : Jvm.Cond.code y bytes maxL ret2 ∈ lw_all) (hini : Jvm.Cond.initialized y.cls ∈ lw_all) (hq : Jvm.Cond.methodLinkNest own index y host ∈ lw_tbl) (hin : Jvm.Cond.static y ∈ lw_all) (hd : decode cc pc = .ok (.invokestatic index, 3)) (na : Nat) (hst : st0 = As.reverse ++ rest)
    (hy : y.cls ≠ "java/lang/invoke/MethodHandle" ∧ y.cls ≠ "java/lang/invoke/VarHandle" ∧ (parseMethodDescriptor y.desc).map (fun d => d.parameters.length) = some na) (hna : As.length = na) (hrm : rm2.frames + 1 ≤ rm.frames ∧ 8 + (maxL + 11) + rm2.locals ≤ rm.locals) (hcat : (rest.map fun v => v.category).sum ≤ 8) (hz : rm2.cells = 0 ∧ rm2.slots = 0)
    (kk : ∀ (v : Option Value) (h' : PH), Q v h' → Go X G h' k n (pc + 3) lv (psh v rest)) : Go X G h k n pc lv st0 :=
  go_callSNX hC hM hcode hini hq hin hd na hst hy hna hrm hcat (by rw [hz.1]; exact Nat.zero_le _) (by rw [hz.2]; exact Nat.zero_le _) (fun E h' z => z.elim) (fun v h' q => by rw [hz.1, hz.2]; exact kk v h' q)
end HeapRows
/-! loops: a measure that falls -/
theorem lpA {A : Type} {P : A → Prop} (μ : A → Nat) (st : ∀ a, (∀ b, μ b < μ a → P b) → P a) : ∀ a, P a := by
  have key : ∀ m a, μ a < m → P a := by
    intro m
    induction m with
    | zero => exact fun a q => absurd q (Nat.not_lt_zero _)
    | succ m ih => exact fun a q => st a (fun b hb => ih b (by omega))
  exact fun a => key (μ a + 1) a (Nat.lt_succ_self _)
theorem lpB {A B : Type} {P : A → B → Prop} (μ : A → B → Nat) (st : ∀ a b, (∀ a' b', μ a' b' < μ a b → P a' b') → P a b) : ∀ a b, P a b := by
  have key := lpA (A := A × B) (P := fun q => P q.1 q.2) (fun q => μ q.1 q.2) (fun q ih => st q.1 q.2 (fun a' b' z => ih (a', b') z))
  exact fun a b => key (a, b)
theorem lpC {A B C : Type} {P : A → B → C → Prop} (μ : A → B → C → Nat) (st : ∀ a b c, (∀ a' b' c', μ a' b' c' < μ a b c → P a' b' c') → P a b c) : ∀ a b c, P a b c := by
  have key := lpA (A := A × B × C) (P := fun q => P q.1 q.2.1 q.2.2) (fun q => μ q.1 q.2.1 q.2.2) (fun q ih => st q.1 q.2.1 q.2.2 (fun a' b' c' z => ih (a', b', c') z))
  exact fun a b c => key (a, b, c)
theorem lpD {A B C D : Type} {P : A → B → C → D → Prop} (μ : A → B → C → D → Nat) (st : ∀ a b c d, (∀ a' b' c' d', μ a' b' c' d' < μ a b c d → P a' b' c' d') → P a b c d) : ∀ a b c d, P a b c d := by
  have key := lpA (A := A × B × C × D) (P := fun q => P q.1 q.2.1 q.2.2.1 q.2.2.2) (fun q => μ q.1 q.2.1 q.2.2.1 q.2.2.2) (fun q ih => st q.1 q.2.1 q.2.2.1 q.2.2.2 (fun a' b' c' d' z => ih (a', b', c', d') z))
  exact fun a b c d => key (a, b, c, d)
theorem lpE {A B C D E : Type} {P : A → B → C → D → E → Prop} (μ : A → B → C → D → E → Nat) (st : ∀ a b c d e, (∀ a' b' c' d' e', μ a' b' c' d' e' < μ a b c d e → P a' b' c' d' e') → P a b c d e) : ∀ a b c d e, P a b c d e := by
  have key := lpA (A := A × B × C × D × E) (P := fun q => P q.1 q.2.1 q.2.2.1 q.2.2.2.1 q.2.2.2.2) (fun q => μ q.1 q.2.1 q.2.2.1 q.2.2.2.1 q.2.2.2.2) (fun q ih => st q.1 q.2.1 q.2.2.1 q.2.2.2.1 q.2.2.2.2 (fun a' b' c' d' e' z => ih (a', b', c', d', e') z))
  exact fun a b c d e => key (a, b, c, d, e)
