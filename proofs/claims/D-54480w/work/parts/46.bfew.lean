/-! A BATCH: the fewest steps; by a rule -/
set_option maxRecDepth 100000
theorem inO_nodup {n : Nat} {p bs : List Nat} (hp : PO n p) (hn : bs.length = n) (hb : bs.Nodup) (h9 : ∀ x ∈ bs, x < 1000) : (inO bs p).Nodup := by
  unfold inO
  unfold List.Nodup
  rw [List.pairwise_iff_getElem]
  intro i j hi0 hj0 hij e0
  have e : (p.map (fun j => nI (bs.getD j 0)))[i]? = (p.map (fun j => nI (bs.getD j 0)))[j]? := by rw [List.getElem?_eq_getElem hi0, List.getElem?_eq_getElem hj0, e0]
  have hj := hj0
  rw [List.length_map] at hj
  obtain ⟨x, hx, -⟩ := get_of (show i < p.length by omega)
  obtain ⟨y, hy, -⟩ := get_of hj
  rw [List.getElem?_map, List.getElem?_map, hx, hy] at e
  have e2 : nI (bs.getD x 0) = nI (bs.getD y 0) := Option.some.inj e
  have hxn : x < bs.length := by rw [hn]; exact PO_mem hp x (List.mem_of_getElem? hx)
  have hyn : y < bs.length := by rw [hn]; exact PO_mem hp y (List.mem_of_getElem? hy)
  obtain ⟨u, hu, -⟩ := get_of hxn
  obtain ⟨v, hv, -⟩ := get_of hyn
  rw [getD_of hu, getD_of hv] at e2
  have hu9 := h9 u (List.mem_of_getElem? hu)
  have hv9 := h9 v (List.mem_of_getElem? hv)
  have e3 : u = v := (nI_eq (by omega) (by omega)).mp e2
  subst e3
  have e4 : x = y := (List.getElem?_inj hxn hb).mp (hu.trans hv.symm)
  subst e4
  have h1 := hp.1
  have := hp.2.2 i j (by omega) (by omega) (by rw [getD_of hx, getD_of hy])
  omega
theorem zsO_map {t : St} {bs p : List Nat} {zs : List Zt} (hz : ∀ (k x : Nat), bs[k]? = some x → ∃ z, zs[k]? = some z ∧ itm (sI t) (nI x) = some z.2.2) (hp : ∀ x ∈ p, x < bs.length) : (inO bs p).map (fun x => itm (sI t) x) = (zsO zs p).map some := by
  induction p with
  | nil => rfl
  | cons x p ih =>
    obtain ⟨u, hu, -⟩ := get_of (hp x List.mem_cons_self)
    obtain ⟨z, hz1, hz2⟩ := hz x u hu
    have e : zsO zs (x :: p) = z.2.2 :: zsO zs p := by
      unfold zsO
      rw [List.filterMap_cons, hz1]
      rfl
    rw [e, show inO bs (x :: p) = nI (bs.getD x 0) :: inO bs p from rfl, List.map_cons, List.map_cons, getD_of hu, hz2, ih (fun y hy => hp y (List.mem_cons_of_mem _ hy))]
theorem abs_way {I : Nat → Int32} {lim : Int32} {w d : Nat} (h : wayP I lim w d ≠ 99) : ∃ j, j ≤ 11 ∧ absI (wayP I lim w d) = nI j := by
  have hp := plc_lt d w
  have key : ∀ p, p < 12 → absI (nI p) = nI p ∧ (0 < p → absI (-(nI (12 - p))) = nI (12 - p)) := by decide +kernel
  rcases way_cases I lim w d h with ⟨-, e⟩ | ⟨h0, e | e⟩
  · exact ⟨0, by omega, by rw [e]; rfl⟩
  · exact ⟨plc d w, by omega, by rw [e]; exact (key _ hp).1⟩
  · exact ⟨12 - plc d w, by omega, by rw [e]; exact (key _ hp).2 h0⟩
theorem lsR_nn (S : Nat → Int32) : ∀ (ys : List It) (L : Nat → Int32) (w m : Nat), (lsR S ys L w (nI m)).1 = true → ∃ k, k ≤ m + 11 * ys.length ∧ (lsR S ys L w (nI m)).2 = nI k
  | [], L, w, m, _ => ⟨m, by omega, rfl⟩
  | y :: ys, L, w, m, h => by
    have e : lsR S (y :: ys) L w (nI m) = if wayR L S w y.2.2 = 99 then (false, nI m + absI (wayR L S w y.2.2)) else lsR S ys (upd L y.2.2 (L y.2.2 - y.2.1)) y.2.2 (nI m + absI (wayR L S w y.2.2)) := rfl
    rw [e] at h ⊢
    by_cases q : wayR L S w y.2.2 = 99
    · rw [if_pos q] at h; exact absurd (show false = true from h) (by decide)
    · rw [if_neg q] at h ⊢
      obtain ⟨j, hj, ej⟩ := abs_way (I := imbR L) (lim := S 0) (w := w) (d := y.2.2) q
      have ej2 : absI (wayR L S w y.2.2) = nI j := ej
      rw [ej2, nI_add] at h ⊢
      obtain ⟨k, hk, ek⟩ := lsR_nn S ys _ _ (m + j) h
      exact ⟨k, by simp only [List.length_cons]; omega, ek⟩
