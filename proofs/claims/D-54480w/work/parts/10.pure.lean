/-! PURE STATE: what a ring of drawers is, and what is computed of it -/
set_option maxRecDepth 100000
/-- an item: number, weight, drawer -/
abbrev It : Type := Nat × Int32 × Nat
/-- numbers (0 imbalance, 1 load, 2 rule, 4 steps, 5 down, 6 longer, 7 picked), jams, window, how many numbers are given out, items -/
abbrev St : Type := (Nat → Int32) × (Nat → Bool) × Nat × Nat × List It
abbrev sN (t : St) : Nat → Int32 := t.1
abbrev sJ (t : St) : Nat → Bool := t.2.1
abbrev sW (t : St) : Nat := t.2.2.1
abbrev sC (t : St) : Nat := t.2.2.2.1
abbrev sI (t : St) : List It := t.2.2.2.2
def absI (x : Int32) : Int32 := if x < 0 then -x else x
def maxI (a b : Int32) : Int32 := if a < b then b else a
def minI (a b : Int32) : Int32 := if b < a then b else a
def plc (d w : Nat) : Nat := (d + 12 - w) % 12
def ldf (d : Nat) (a : Int32) (x : It) : Int32 := a + (if x.2.2 = d then x.2.1 else 0)
def ld (l : List It) (d : Nat) : Int32 := l.foldl (ldf d) 0
def itf (d : Nat) (a : Int32) (x : It) : Int32 := a + (if x.2.2 = d then 1 else 0)
def itn (l : List It) (d : Nat) : Int32 := l.foldl (itf d) 0
def alf (a : Int32) (x : It) : Int32 := a + x.2.1
def sgn (p : Nat) (v : Int32) : Int32 := if p = 0 then 0 else if p = 6 then 0 else if p < 6 then v else -v
def sgf (w : Nat) (a : Int32) (x : It) : Int32 := a + sgn (plc x.2.2 w) x.2.1
def imb (l : List It) (w : Nat) : Int32 := absI (l.foldl (sgf w) 0)
/-- the greatest of f 0 .. f 11, and 0 -/
def top12 (f : Nat → Int32) : Int32 := (List.range' 0 12).foldl (fun a w => maxI a (f w)) 0
/-- whether steps (1 or 11 a step) are free, by the imbalances I and the limit -/
def opn (I : Nat → Int32) (lim : Int32) (w st by_ : Nat) : Bool := (List.range' 1 st).all (fun k => decide (I ((w + k * by_) % 12) ≤ lim))
def wayP (I : Nat → Int32) (lim : Int32) (w d : Nat) : Int32 :=
  if plc d w = 0 then 0 else
  if opn I lim w (plc d w) 1 = false ∧ opn I lim w (12 - plc d w) 11 = false then 99 else
  if opn I lim w (plc d w) 1 = true ∧ (plc d w ≤ 6 ∨ opn I lim w (12 - plc d w) 11 = false) then nI (plc d w) else -(nI (12 - plc d w))
def way (t : St) (d : Nat) : Int32 := wayP (imb (sI t)) (sN t 0) (sW t) d
def isX (x : Int32) (y : It) : Bool := nI y.1 == x
def pos (l : List It) (x : Int32) : Option Nat := l.findIdx? (isX x)
def itm (l : List It) (x : Int32) : Option It := l.find? (isX x)
def posI (o : Option Nat) : Int32 := match o with
  | none => -1
  | some i => nI i
def reason (t : St) (x : Int32) : Int32 := match itm (sI t) x with
  | none => 1
  | some y => if sJ t y.2.2 = true then 2 else if way t y.2.2 = 99 then 3 else 0
def jmn (J : Nat → Bool) : Int32 := (List.range' 0 12).foldl (fun a d => a + bI (J d)) 0
def alw (l : List It) : Int32 := l.foldl alf 0
def cnt (t : St) (k what : Nat) : Int32 :=
  if what = 0 then nI (sW t) else if what = 1 then nI (sI t).length else if what = 2 then alw (sI t) else if what = 3 then imb (sI t) (sW t) else if what = 4 then top12 (imb (sI t)) else if what = 9 then jmn (sJ t) else if what = 10 then nI k else sN t (what - 1)
def tel (t : St) (d what : Nat) : Int32 :=
  if what = 0 then ld (sI t) d else if what = 1 then itn (sI t) d else if what = 2 then nI (plc d (sW t)) else if what = 3 then bI (sJ t d) else if what = 4 then imb (sI t) d else sN t 1 - ld (sI t) d
/-- the sum of the loads L, by the side of the window w on which they are -/
def smL (L : Nat → Int32) (w : Nat) : Int32 := (List.range' 0 12).foldl (fun a o => a + sgn (plc o w) (L o)) 0
def addL (L : Nat → Int32) (d : Nat) (v : Int32) : Nat → Int32 := fun o => L o + (if o = d then v else 0)
def wthL (L : Nat → Int32) : Int32 := top12 (fun w => absI (smL L w))
def gw (l : List It) (d : Nat) (v : Int32) : Int32 := wthL (addL (ld l) d v)
/-- the best drawer so far, its imbalance: one more is looked at -/
def bstf (t : St) (v : Int32) (s : Option Nat × Int32) (d : Nat) : Option Nat × Int32 :=
  if sJ t d = false ∧ ld (sI t) d + v ≤ sN t 1 then
    match s.1 with
    | none => (some d, gw (sI t) d v)
    | some b => if gw (sI t) d v < s.2 ∨ gw (sI t) d v = s.2 ∧ ld (sI t) d < ld (sI t) b then (some d, gw (sI t) d v) else s
  else s
def bst (t : St) (v : Int32) : Option Nat := ((List.range' 0 12).foldl (bstf t v) (none, 0)).1
def low12 (f : Nat → Int32) (a : Int32) : Int32 := (List.range' 0 12).foldl (fun a d => minI a (f d)) a
def evn (l : List It) : UInt64 := if top12 (ld l) = 0 then FP.dconst1 else FP.ddiv (FP.i2d (low12 (ld l) (top12 (ld l)))) (FP.i2d (top12 (ld l)))
/-- a row of the reference holds a state -/
def Row (s : Nat → Int32) (t : St) : Prop :=
  (∀ k, k < 3 → s k = sN t k) ∧ s 3 = nI (sW t) ∧ (∀ k, 4 ≤ k → k < 8 → s k = sN t k) ∧ s 8 = nI (sC t) ∧ s 9 = nI (sI t).length ∧ (∀ d, d < 12 → s (10 + d) = bI (sJ t d)) ∧
  ∀ (i : Nat) (x : It), (sI t)[i]? = some x → s (22 + 3 * i) = nI x.1 ∧ s (22 + 3 * i + 1) = x.2.1 ∧ s (22 + 3 * i + 2) = nI x.2.2
/-- a state as it can be: at most c numbers are given out -/
def WF (c : Nat) (t : St) : Prop := sW t < 12 ∧ sC t ≤ c ∧ (sI t).length ≤ 40 ∧ (∀ x ∈ sI t, (x.1 < sC t ∧ x.2.2 < 12) ∧ ∃ k, k ≤ 20 ∧ x.2.1 = nI k) ∧ ((sI t).map (fun x => x.1)).Nodup ∧ (sN t 2 = 0 ∨ sN t 2 = 1 ∨ sN t 2 = 2)
theorem WF.w {c : Nat} {t : St} (h : WF c t) : sW t < 12 := h.1
theorem WF.n {c : Nat} {t : St} (h : WF c t) : (sI t).length ≤ 40 := h.2.2.1
/-- what sums ask of the items -/
def WD (t : St) : Prop := (sI t).length ≤ 40 ∧ ∀ x ∈ sI t, x.2.2 < 12
theorem WF.d {c : Nat} {t : St} (h : WF c t) : WD t := ⟨h.2.2.1, fun x hx => (h.2.2.2.1 x hx).1.2⟩
theorem WD.it {t : St} (h : WD t) {i : Nat} {x : It} (hi : (sI t)[i]? = some x) : x.2.2 < 12 := h.2 x (List.mem_of_getElem? hi)
theorem WF.it {c : Nat} {t : St} (h : WF c t) {i : Nat} {x : It} (hi : (sI t)[i]? = some x) : x.1 < sC t ∧ x.2.2 < 12 := (h.2.2.2.1 x (List.mem_of_getElem? hi)).1
theorem get_of {α : Type} {l : List α} {i : Nat} (h : i < l.length) : ∃ x, l[i]? = some x ∧ l.drop i = x :: l.drop (i + 1) := ⟨l[i], List.getElem?_eq_getElem h, List.drop_eq_getElem_cons h⟩
theorem drop_end {α : Type} {l : List α} {i : Nat} (h : ¬ i < l.length) : l.drop i = [] := List.drop_eq_nil_of_le (Nat.not_lt.mp h)
theorem nI_lt' {a b : Nat} (ha : a < 2 ^ 31) (hb : b < 2 ^ 31) : ¬ nI b ≤ nI a ↔ a < b := by rw [nI_leI hb ha]; omega
theorem nI_e0 {a : Nat} (ha : a < 2 ^ 31) : nI a = 0 ↔ a = 0 := nI_eq (b := 0) ha (by omega)
theorem nI_plc {d w : Nat} (hd : d < 12) (hw : w < 12) : (nI d - nI w + nI 12) - (nI d - nI w + nI 12) / nI 12 * nI 12 = nI (plc d w) := by
  have e : nI d - nI w + nI 12 = nI (d + 12 - w) := by
    rw [← pk_sub (a := d + 12) (b := w) (by omega), ← nI_add]
    grind
  rw [e, pk_rem (by omega) (by omega) (by omega)]
  rfl
theorem rg_c {i n : Nat} (h : i < n) : List.range' i (n - i) = i :: List.range' (i + 1) (n - (i + 1)) := by
  rw [show n - i = (n - (i + 1)) + 1 by omega, List.range'_succ]
theorem rg_e {i n : Nat} (h : n ≤ i) : List.range' i (n - i) = [] := by
  rw [show n - i = 0 by omega]; rfl
theorem i32_nle {a b : Int32} : ¬ a ≤ b ↔ b < a := Int32.not_le
theorem i32_nlt {a b : Int32} : ¬ a < b ↔ b ≤ a := Int32.not_lt
theorem maxI_l {a b : Int32} (h : b ≤ a) : maxI a b = a := if_neg (i32_nlt.mpr h)
theorem maxI_r {a b : Int32} (h : ¬ b ≤ a) : maxI a b = b := if_pos (i32_nle.mp h)
theorem minI_l {a b : Int32} (h : a ≤ b) : minI a b = a := if_neg (i32_nlt.mpr h)
theorem minI_r {a b : Int32} (h : ¬ a ≤ b) : minI a b = b := if_pos (i32_nle.mp h)
theorem absI_p {a : Int32} (h : 0 ≤ a) : absI a = a := if_neg (i32_nlt.mpr h)
theorem absI_m {a : Int32} (h : ¬ 0 ≤ a) : absI a = -a := if_pos (i32_nle.mp h)
theorem plc_lt (d w : Nat) : plc d w < 12 := Nat.mod_lt _ (by omega)
theorem fI_some {α : Type} {p : α → Bool} {l : List α} {i : Nat} {x : α} (hx : l[i]? = some x) (hp : p x = true) (hb : ∀ j y, j < i → l[j]? = some y → p y = false) : l.findIdx? p = some i := by
  obtain ⟨hl, e⟩ := List.getElem?_eq_some_iff.mp hx
  refine List.findIdx?_eq_some_iff_getElem.mpr ⟨hl, by rw [e]; exact hp, fun j hj => ?_⟩
  rw [hb j _ hj (List.getElem?_eq_getElem (by omega))]
  decide
theorem fI_none {α : Type} {p : α → Bool} {l : List α} (hb : ∀ (j : Nat) (y : α), l[j]? = some y → p y = false) : l.findIdx? p = none := by
  refine List.findIdx?_eq_none_iff.mpr (fun x hx => ?_)
  obtain ⟨j, hj⟩ := List.getElem?_of_mem hx
  exact hb j x hj
theorem f_some {α : Type} {p : α → Bool} {l : List α} {i : Nat} {x : α} (hx : l[i]? = some x) (hp : p x = true) (hb : ∀ j y, j < i → l[j]? = some y → p y = false) : l.find? p = some x := by
  obtain ⟨hl, e⟩ := List.getElem?_eq_some_iff.mp hx
  exact List.find?_eq_some_iff_getElem.mpr ⟨hp, i, hl, e, fun j hj => by rw [hb j _ hj (List.getElem?_eq_getElem (by omega))]; rfl⟩
theorem f_none {α : Type} {p : α → Bool} {l : List α} (hb : ∀ (j : Nat) (y : α), l[j]? = some y → p y = false) : l.find? p = none := by
  refine List.find?_eq_none.mpr (fun x hx => ?_)
  obtain ⟨j, hj⟩ := List.getElem?_of_mem hx
  rw [hb j x hj]; decide
/-- where an item is, and which: both, or neither -/
theorem pos_itm (l : List It) (x : Int32) : (pos l x = none ∧ itm l x = none) ∨ ∃ i y, pos l x = some i ∧ itm l x = some y ∧ l[i]? = some y ∧ nI y.1 = x := by
  unfold pos itm
  cases h : l.findIdx? (isX x) with
  | none => exact Or.inl ⟨rfl, List.find?_eq_none.mpr (fun y hy => by rw [List.findIdx?_eq_none_iff.mp h y hy]; decide)⟩
  | some i =>
    obtain ⟨hl, hp, hb⟩ := List.findIdx?_eq_some_iff_getElem.mp h
    have hg : l[i]? = some l[i] := List.getElem?_eq_getElem hl
    refine Or.inr ⟨i, l[i], rfl, f_some hg hp (fun j y hj hy => ?_), hg, by simpa [isX] using hp⟩
    have := hb j hj
    obtain ⟨hjl, e⟩ := List.getElem?_eq_some_iff.mp hy
    rw [e] at this
    simpa using this
theorem ldf_nI (d : Nat) : ∀ (l : List It) (a : Nat), (∀ x ∈ l, ∃ k, k ≤ 20 ∧ x.2.1 = nI k) → ∃ k, k ≤ a + 20 * l.length ∧ l.foldl (ldf d) (nI a) = nI k
  | [], a, _ => ⟨a, by simp, rfl⟩
  | x :: r, a, h => by
    obtain ⟨w, hw, e⟩ := h x List.mem_cons_self
    obtain ⟨b, hb, eb⟩ : ∃ b, b ≤ a + 20 ∧ ldf d (nI a) x = nI b := by
      by_cases q : x.2.2 = d
      · exact ⟨a + w, by omega, by simp only [ldf, if_pos q]; rw [e, nI_add]⟩
      · exact ⟨a, by omega, by simp only [ldf, if_neg q]; rw [← nI_0, nI_add]; rfl⟩
    obtain ⟨k, hk, ek⟩ := ldf_nI d r b (fun y hy => h y (List.mem_cons_of_mem _ hy))
    exact ⟨k, by simp only [List.length_cons]; omega, by rw [List.foldl_cons, eb, ek]⟩
theorem WF.hld {c : Nat} {t : St} (h : WF c t) (d : Nat) : ∃ k, k ≤ 800 ∧ ld (sI t) d = nI k := by
  obtain ⟨k, h1, h2⟩ := ldf_nI d (sI t) 0 (fun x hx => (h.2.2.2.1 x hx).2)
  have := h.2.2.1
  exact ⟨k, by omega, h2⟩
theorem max_nI {f : Nat → Int32} {B : Nat} (hB : B < 2 ^ 31) (hf : ∀ d, ∃ k, k ≤ B ∧ f d = nI k) : ∀ (l : List Nat) (a : Nat), a ≤ B → ∃ k, k ≤ B ∧ l.foldl (fun a w => maxI a (f w)) (nI a) = nI k
  | [], a, h => ⟨a, h, rfl⟩
  | x :: r, a, h => by
    obtain ⟨k, hk, e⟩ := hf x
    rw [List.foldl_cons, e]
    by_cases q : nI k ≤ nI a
    · rw [maxI_l q]; exact max_nI hB hf r a h
    · rw [maxI_r q]; exact max_nI hB hf r k hk
theorem min_nI {f : Nat → Int32} {B : Nat} (hf : ∀ d, ∃ k, k ≤ B ∧ f d = nI k) : ∀ (l : List Nat) (a : Nat), a ≤ B → ∃ k, k ≤ B ∧ l.foldl (fun a w => minI a (f w)) (nI a) = nI k
  | [], a, h => ⟨a, h, rfl⟩
  | x :: r, a, h => by
    obtain ⟨k, hk, e⟩ := hf x
    rw [List.foldl_cons, e]
    by_cases q : nI a ≤ nI k
    · rw [minI_l q]; exact min_nI hf r a h
    · rw [minI_r q]; exact min_nI hf r k hk
theorem WF.htop {c : Nat} {t : St} (h : WF c t) : ∃ k, k ≤ 800 ∧ top12 (ld (sI t)) = nI k := max_nI (by omega) h.hld _ 0 (by omega)
theorem WF.hlow {c : Nat} {t : St} (h : WF c t) : ∃ k, k ≤ 800 ∧ low12 (ld (sI t)) (top12 (ld (sI t))) = nI k := by
  obtain ⟨k, h1, h2⟩ := h.htop
  rw [h2]
  exact min_nI h.hld _ k h1
