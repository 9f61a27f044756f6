/-! ROWS: an instruction a row, in V -/
abbrev cN (b : BK) (a n : Nat) (f : Nat → Nat) : Nat × va_E := (a, .inl (b.2.1 0, n, .inl (fun j => nI (f j))))
abbrev cZ (b : BK) (a n : Nat) (f : Nat → Int) : Nat × va_E := (a, .inl (b.2.1 0, n, .inl (fun j => iI (f j))))
abbrev cB (b : BK) (a n : Nat) (f : Nat → Bool) : Nat × va_E := (a, .inl (b.2.1 1, n, .inl (fun j => bI (f j))))
abbrev cL (b : BK) (a n : Nat) (f : Nat → Nat) : Nat × va_E := (a, .inl (b.2.1 2, n, .inr (.inl (fun j => lN (f j)))))
abbrev cR (b : BK) (t a n : Nat) (f : Nat → Option Nat) : Nat × va_E := (a, .inl (b.2.1 t, n, .inr (.inr (.inr (.inr f)))))
abbrev cO (a ci : Nat) (fs : List Value) : Nat × va_E := (a, .inr (ci, fs))
-- chunks
theorem fl_at {Ws : List va_W} {w : va_W} {x : Nat × va_E} {i j : Nat} (hi : Ws[i]? = some w) (hj : w[j]? = some x) : ∃ q : Nat, Ws.flatten[q]? = some x ∧ ∀ x', Ws.flatten.set q x' = (Ws.set i (w.set j x')).flatten := by
  induction Ws generalizing i with
  | nil => simp at hi
  | cons v Ws ih =>
    cases i with
    | zero =>
      simp at hi
      subst hi
      have hlt : j < v.length := (List.getElem?_eq_some_iff.mp hj).1
      refine ⟨j, ?_, fun x' => ?_⟩
      · rw [List.flatten_cons, List.getElem?_append_left hlt]
        exact hj
      · simp only [List.set_cons_zero, List.flatten_cons]
        rw [List.set_append_left _ _ hlt]
    | succ i =>
      simp at hi
      obtain ⟨q, h1, h2⟩ := ih hi
      refine ⟨v.length + q, ?_, fun x' => ?_⟩
      · rw [List.flatten_cons, List.getElem?_append_right (by omega)]
        simpa using h1
      · simp only [List.set_cons_succ, List.flatten_cons]
        rw [← h2 x', List.set_append_right _ _ (by omega)]
        simp
def pick (is : List Nat) (Ws : List va_W) : List va_W := is.filterMap (fun i => Ws[i]?)
theorem pick_all (Ws : List va_W) : (List.range Ws.length).filterMap (fun i => Ws[i]?) = Ws := by
  induction Ws with
  | nil => rfl
  | cons w Ws ih =>
    rw [List.length_cons, List.range_succ_eq_map, List.filterMap_cons]
    simp only [List.getElem?_cons_zero, List.filterMap_map]
    congr 1
theorem pick_perm {Ws Wc Wr : List va_W} (isC isR : List Nat) {NW : Nat} (hNW : Ws.length = NW) (hp : (isC ++ isR).isPerm (List.range NW) = true) (hC : pick isC Ws = Wc) (hR : pick isR Ws = Wr) : Ws.flatten.Perm (Wc.flatten ++ Wr.flatten) := by
  subst hNW
  have h1 : (isC ++ isR).Perm (List.range Ws.length) := List.isPerm_iff.mp hp
  have h2 := h1.filterMap (fun i => Ws[i]?)
  rw [List.filterMap_append, pick_all] at h2
  have h3 := (h2.symm).flatten
  rw [List.flatten_append] at h3
  subst hC; subst hR
  exact h3
theorem va_P.mem {D : va_G} {cl : List vw_C} {ws : va_W} {H : Heap} (h : va_P D cl ws H) {x : Nat × va_E} (hx : x ∈ ws) : va_at D cl x H := by
  obtain ⟨i, hi⟩ := List.getElem?_of_mem hx
  exact h i x hi
theorem va_P.of_mem {D : va_G} {cl : List vw_C} {ws : va_W} {H : Heap} (h : ∀ x ∈ ws, va_at D cl x H) : va_P D cl ws H := fun k q hk => h q (List.mem_of_getElem? hk)
theorem va_D.nodup {A : Nat → Prop} {ws : va_W} (h : va_D A ws) : (ws.map (·.1)).Nodup := by
  refine List.pairwise_iff_getElem.mpr fun i j hi hj hij e => ?_
  have hi' : i < ws.length := by simpa using hi
  have hj' : j < ws.length := by simpa using hj
  have := h.1 i j _ _ (List.getElem?_eq_getElem hi') (List.getElem?_eq_getElem hj') (by simpa using e)
  omega
theorem va_D.of_nodup {A : Nat → Prop} {ws : va_W} (h : (ws.map (·.1)).Nodup) (hA : ∀ x ∈ ws, A x.1) : va_D A ws := by
  refine ⟨fun i j x y hi hj e => ?_, fun k x hk => hA x (List.mem_of_getElem? hk)⟩
  have h1 : (ws.map (·.1))[i]? = some x.1 := by rw [List.getElem?_map, hi]; rfl
  have h2 : (ws.map (·.1))[j]? = some x.1 := by rw [List.getElem?_map, hj, e]; rfl
  have hi' : i < (ws.map (·.1)).length := (List.getElem?_eq_some_iff.mp h1).1
  exact (List.getElem?_inj hi' h).mp (h1.trans h2.symm)
theorem va_D.perm {A : Nat → Prop} {ws ws' : va_W} (h : va_D A ws) (hp : ws.Perm ws') : va_D A ws' :=
  va_D.of_nodup ((hp.map (·.1)).nodup_iff.mp h.nodup) (fun x hx => by
    obtain ⟨i, hi⟩ := List.getElem?_of_mem (hp.mem_iff.mpr hx)
    exact h.2 i x hi)
theorem va_P.perm {D : va_G} {cl : List vw_C} {ws ws' : va_W} {H : Heap} (h : va_P D cl ws H) (hp : ws.Perm ws') : va_P D cl ws' H := va_P.of_mem fun _ hx => h.mem (hp.mem_iff.mpr hx)
theorem va_D.memA {A : Nat → Prop} {ws : va_W} (h : va_D A ws) {x : Nat × va_E} (hx : x ∈ ws) : A x.1 := by
  obtain ⟨i, hi⟩ := List.getElem?_of_mem hx
  exact h.2 i x hi
section WD
variable {b : BK} {BC BS S0 : Nat} {s : State} {A : Nat → Prop} {Ws Ws' : List va_W} {sz sl : Nat} {H : Heap} {lo : List Loc}
/-- other chunks, the same cells -/
theorem Wd.perm (h : Wd b BC BS S0 s A Ws sz sl H lo) (hp : Ws.flatten.Perm Ws'.flatten) : Wd b BC BS S0 s A Ws' sz sl H lo := by
  obtain ⟨h1, h2, h3⟩ := h
  exact ⟨h1.perm hp, h2.perm hp, h3⟩
theorem Wd.re (h : Wd b BC BS S0 s A Ws sz sl H lo) (hp : Ws.flatten = Ws'.flatten) : Wd b BC BS S0 s A Ws' sz sl H lo := h.perm (by rw [hp])
/-- some of the chunks, in any order -/
theorem Wd.pick (h : Wd b BC BS S0 s A Ws sz sl H lo) (is ir : List Nat) {NW : Nat} (hNW : Ws.length = NW) (hp : (is ++ ir).isPerm (List.range NW) = true) (hC : pick is Ws = Ws') : Wd b BC BS S0 s A Ws' sz sl H lo := by
  have hp := pick_perm is ir hNW hp hC rfl
  obtain ⟨h1, h2, h3⟩ := h
  have h1 := h1.perm hp
  have h2 := h2.perm hp
  refine ⟨va_P.of_mem fun x hx => h1.mem (List.mem_append_left _ hx), va_D.of_nodup ?_ (fun x hx => h2.memA (List.mem_append_left _ hx)), h3⟩
  have h4 := h2.nodup
  rw [List.map_append] at h4
  exact (List.nodup_append.mp h4).1
theorem Wd.more (h : Wd b BC BS S0 s A Ws sz sl H lo) {sl' : Nat} (h1 : sl ≤ sl') (h2 : sl' ≤ BS) : Wd b BC BS S0 s A Ws sz sl' H lo := by
  obtain ⟨a1, a2, a3, a4, a5, a6, a7, a8, a9, a10⟩ := h
  exact ⟨a1, a2, a3, a4, a5, a6, a7, by omega, a9, h2⟩
end WD
section RW
variable {p : Program} {l : Launch} {e : Env} {R : Room} {s : State} {m : MethodId} {args : Array Value} {below : List Frame} {meth : Method} {c : Code} {Q : State → Prop} {cc : ByteArray} {nL : Nat} {own : String} {b : BK} {BC BS S0 FR LO : Nat} {H : Heap} {lo : List Loc} {pc n : Nat} {L L' : List (Nat × Value)} {st st' : List Value} {A : Nat → Prop} {Ws Ws' : List va_W} {sz sl : Nat}
theorem r_st (h : st = st') (k : V p l e R s m args below meth c Q nL H lo pc L st') : V p l e R s m args below meth c Q nL H lo pc L st := h ▸ k
theorem r_lv (ks : List Nat) (h : lv_pick L ks = L') (k : V p l e R s m args below meth c Q nL H lo pc L' st) : V p l e R s m args below meth c Q nL H lo pc L st := fun ls hl => k ls (lv_sub hl ks h)
theorem r_le (h : L = L') (k : V p l e R s m args below meth c Q nL H lo pc L' st) : V p l e R s m args below meth c Q nL H lo pc L st := h ▸ k
theorem V_le (k : s.heap.size ≤ H.size → slH s.heap ≤ slH H → V p l e R s m args below meth c Q nL H lo pc L st) : V p l e R s m args below meth c Q nL H lo pc L st := fun ls hl => W_bound fun h1 h2 _ _ => k h1 h2 ls hl
theorem r_iconst (X : Ctx p R s m args meth c cc nL own b BC BS S0 FR LO) {i : Int} {v : Int32} (hd : Dc cc pc (.iconst i) 1 n) (hv : Int32.ofInt i = v) (k : V p l e R s m args below meth c Q nL H lo n L (.int v :: st)) : V p l e R s m args below meth c Q nL H lo pc L st := by
  obtain ⟨hd, rfl⟩ := hd
  exact fun ls hl => lv_iconst X.1 X.2.1 hd hv (k ls hl)
theorem r_bipush (X : Ctx p R s m args meth c cc nL own b BC BS S0 FR LO) {i : Int} {v : Int32} (hd : Dc cc pc (.bipush i) 2 n) (hv : (Int8.ofInt i).toInt32 = v) (k : V p l e R s m args below meth c Q nL H lo n L (.int v :: st)) : V p l e R s m args below meth c Q nL H lo pc L st := by
  obtain ⟨hd, rfl⟩ := hd
  exact fun ls hl => lv_bipush X.1 X.2.1 hd hv (k ls hl)
theorem r_sipush (X : Ctx p R s m args meth c cc nL own b BC BS S0 FR LO) {i : Int} {v : Int32} (hd : Dc cc pc (.sipush i) 3 n) (hv : (Int16.ofInt i).toInt32 = v) (k : V p l e R s m args below meth c Q nL H lo n L (.int v :: st)) : V p l e R s m args below meth c Q nL H lo pc L st := by
  obtain ⟨hd, rfl⟩ := hd
  exact fun ls hl => lv_sipush X.1 X.2.1 hd hv (k ls hl)
theorem r_ldc (X : Ctx p R s m args meth c cc nL own b BC BS S0 FR LO) {i : Nat} {v w : Int32} (hd : Dc cc pc (.ldc i) 2 n) (hc : Cond.constant own i v ∈ tblG) (hv : v = w) (k : V p l e R s m args below meth c Q nL H lo n L (.int w :: st)) : V p l e R s m args below meth c Q nL H lo pc L st := by
  obtain ⟨hd, rfl⟩ := hd
  subst hv
  exact fun ls hl => lv_ldc X.1 X.2.1 X.2.2.2.1 (X.2.2.2.2.1 _ hc) hd (k ls hl)
theorem r_ildn (X : Ctx p R s m args meth c cc nL own b BC BS S0 FR LO) {k0 : Fin 4} {i : Nat} {x : Int32} (hd : Dc cc pc (.iload_n k0) 1 n) (hi : (k0 : Nat) = i) (j : Nat) (h : L[j]? = some (i, .int x)) (k : V p l e R s m args below meth c Q nL H lo n L (.int x :: st)) : V p l e R s m args below meth c Q nL H lo pc L st := by
  obtain ⟨hd, rfl⟩ := hd
  exact fun ls hl => lv_iload_n X.1 X.2.1 hd hi (lv_at hl j h) (k ls hl)
theorem r_ild (X : Ctx p R s m args meth c cc nL own b BC BS S0 FR LO) {i : Nat} {x : Int32} (hd : Dc cc pc (.iload i) 2 n) (j : Nat) (h : L[j]? = some (i, .int x)) (k : V p l e R s m args below meth c Q nL H lo n L (.int x :: st)) : V p l e R s m args below meth c Q nL H lo pc L st := by
  obtain ⟨hd, rfl⟩ := hd
  exact fun ls hl => lv_iload X.1 X.2.1 hd (lv_at hl j h) (k ls hl)
theorem r_aldn (X : Ctx p R s m args meth c cc nL own b BC BS S0 FR LO) {k0 : Fin 4} {i : Nat} {x : Nat} (hd : Dc cc pc (.aload_n k0) 1 n) (hi : (k0 : Nat) = i) (j : Nat) (h : L[j]? = some (i, .ref x)) (k : V p l e R s m args below meth c Q nL H lo n L (.ref x :: st)) : V p l e R s m args below meth c Q nL H lo pc L st := by
  obtain ⟨hd, rfl⟩ := hd
  exact fun ls hl => lv_aload_n X.1 X.2.1 hd hi (lv_at hl j h) (k ls hl)
theorem r_ald (X : Ctx p R s m args meth c cc nL own b BC BS S0 FR LO) {i : Nat} {x : Nat} (hd : Dc cc pc (.aload i) 2 n) (j : Nat) (h : L[j]? = some (i, .ref x)) (k : V p l e R s m args below meth c Q nL H lo n L (.ref x :: st)) : V p l e R s m args below meth c Q nL H lo pc L st := by
  obtain ⟨hd, rfl⟩ := hd
  exact fun ls hl => lv_aload X.1 X.2.1 hd (lv_at hl j h) (k ls hl)
theorem r_aldnN (X : Ctx p R s m args meth c cc nL own b BC BS S0 FR LO) {k0 : Fin 4} {i : Nat} (hd : Dc cc pc (.aload_n k0) 1 n) (hi : (k0 : Nat) = i) (j : Nat) (h : L[j]? = some (i, .null)) (k : V p l e R s m args below meth c Q nL H lo n L (.null :: st)) : V p l e R s m args below meth c Q nL H lo pc L st := by
  obtain ⟨hd, rfl⟩ := hd
  exact fun ls hl => lv_aload_nN X.1 X.2.1 hd hi (lv_at hl j h) (k ls hl)
theorem r_aldN (X : Ctx p R s m args meth c cc nL own b BC BS S0 FR LO) {i : Nat} (hd : Dc cc pc (.aload i) 2 n) (j : Nat) (h : L[j]? = some (i, .null)) (k : V p l e R s m args below meth c Q nL H lo n L (.null :: st)) : V p l e R s m args below meth c Q nL H lo pc L st := by
  obtain ⟨hd, rfl⟩ := hd
  exact fun ls hl => lv_aloadN X.1 X.2.1 hd (lv_at hl j h) (k ls hl)
theorem r_istn (X : Ctx p R s m args meth c cc nL own b BC BS S0 FR LO) {k0 : Fin 4} {i : Nat} {x : Int32} (hd : Dc cc pc (.istore_n k0) 1 n) (hi : (k0 : Nat) = i) (hn : i < nL) (hL : (i, Value.int x) :: L.filter (fun q => !(q.1 == i) && !(q.1 + 1 == i && q.2.category == 2)) = L') (k : V p l e R s m args below meth c Q nL H lo n L' st) : V p l e R s m args below meth c Q nL H lo pc L (.int x :: st) := by
  obtain ⟨hd, rfl⟩ := hd
  exact fun ls hl => lv_istore_n X.1 X.2.1 hd hi hl hn hL (fun ls' hl' => k ls' hl')
theorem r_ist (X : Ctx p R s m args meth c cc nL own b BC BS S0 FR LO) {i : Nat} {x : Int32} (hd : Dc cc pc (.istore i) 2 n) (hn : i < nL) (hL : (i, Value.int x) :: L.filter (fun q => !(q.1 == i) && !(q.1 + 1 == i && q.2.category == 2)) = L') (k : V p l e R s m args below meth c Q nL H lo n L' st) : V p l e R s m args below meth c Q nL H lo pc L (.int x :: st) := by
  obtain ⟨hd, rfl⟩ := hd
  exact fun ls hl => lv_istore X.1 X.2.1 hd hl hn hL (fun ls' hl' => k ls' hl')
theorem r_astn (X : Ctx p R s m args meth c cc nL own b BC BS S0 FR LO) {k0 : Fin 4} {i : Nat} {x : Nat} (hd : Dc cc pc (.astore_n k0) 1 n) (hi : (k0 : Nat) = i) (hn : i < nL) (hL : (i, Value.ref x) :: L.filter (fun q => !(q.1 == i) && !(q.1 + 1 == i && q.2.category == 2)) = L') (k : V p l e R s m args below meth c Q nL H lo n L' st) : V p l e R s m args below meth c Q nL H lo pc L (.ref x :: st) := by
  obtain ⟨hd, rfl⟩ := hd
  exact fun ls hl => lv_astore_n X.1 X.2.1 hd hi hl hn hL (fun ls' hl' => k ls' hl')
theorem r_ast (X : Ctx p R s m args meth c cc nL own b BC BS S0 FR LO) {i : Nat} {x : Nat} (hd : Dc cc pc (.astore i) 2 n) (hn : i < nL) (hL : (i, Value.ref x) :: L.filter (fun q => !(q.1 == i) && !(q.1 + 1 == i && q.2.category == 2)) = L') (k : V p l e R s m args below meth c Q nL H lo n L' st) : V p l e R s m args below meth c Q nL H lo pc L (.ref x :: st) := by
  obtain ⟨hd, rfl⟩ := hd
  exact fun ls hl => lv_astore X.1 X.2.1 hd hl hn hL (fun ls' hl' => k ls' hl')
theorem r_astnN (X : Ctx p R s m args meth c cc nL own b BC BS S0 FR LO) {k0 : Fin 4} {i : Nat} (hd : Dc cc pc (.astore_n k0) 1 n) (hi : (k0 : Nat) = i) (hn : i < nL) (hL : (i, Value.null) :: L.filter (fun q => !(q.1 == i) && !(q.1 + 1 == i && q.2.category == 2)) = L') (k : V p l e R s m args below meth c Q nL H lo n L' st) : V p l e R s m args below meth c Q nL H lo pc L (.null :: st) := by
  obtain ⟨hd, rfl⟩ := hd
  exact fun ls hl => lv_astore_nN X.1 X.2.1 hd hi hl hn hL (fun ls' hl' => k ls' hl')
theorem r_astN (X : Ctx p R s m args meth c cc nL own b BC BS S0 FR LO) {i : Nat} (hd : Dc cc pc (.astore i) 2 n) (hn : i < nL) (hL : (i, Value.null) :: L.filter (fun q => !(q.1 == i) && !(q.1 + 1 == i && q.2.category == 2)) = L') (k : V p l e R s m args below meth c Q nL H lo n L' st) : V p l e R s m args below meth c Q nL H lo pc L (.null :: st) := by
  obtain ⟨hd, rfl⟩ := hd
  exact fun ls hl => lv_astoreN X.1 X.2.1 hd hl hn hL (fun ls' hl' => k ls' hl')
theorem r_iinc (X : Ctx p R s m args meth c cc nL own b BC BS S0 FR LO) {i j : Nat} {z : Int} {x v : Int32} (hd : Dc cc pc (.iinc i z) 3 n) (hj : L[j]? = some (i, .int x)) (hv : x + Int32.ofInt z = v) (hn : i < nL) (hL : (i, Value.int v) :: L.filter (fun q => !(q.1 == i) && !(q.1 + 1 == i && q.2.category == 2)) = L') (k : V p l e R s m args below meth c Q nL H lo n L' st) : V p l e R s m args below meth c Q nL H lo pc L st := by
  obtain ⟨hd, rfl⟩ := hd
  exact fun ls hl => lv_iinc X.1 X.2.1 hd hl hj hv hn hL (fun ls' hl' => k ls' hl')
theorem r_null (X : Ctx p R s m args meth c cc nL own b BC BS S0 FR LO) (hd : Dc cc pc .aconst_null 1 n) (k : V p l e R s m args below meth c Q nL H lo n L (.null :: st)) : V p l e R s m args below meth c Q nL H lo pc L st := by
  obtain ⟨hd, rfl⟩ := hd
  exact fun ls hl => lv_null X.1 X.2.1 hd (k ls hl)
theorem r_dup (X : Ctx p R s m args meth c cc nL own b BC BS S0 FR LO) {v : Value} (hd : Dc cc pc .dup 1 n) (hv : v.category = 1) (k : V p l e R s m args below meth c Q nL H lo n L (v :: v :: st)) : V p l e R s m args below meth c Q nL H lo pc L (v :: st) := by
  obtain ⟨hd, rfl⟩ := hd
  exact fun ls hl => lv_dup X.1 X.2.1 hd hv (k ls hl)
theorem r_pop (X : Ctx p R s m args meth c cc nL own b BC BS S0 FR LO) {v : Value} (hd : Dc cc pc .pop 1 n) (hv : v.category = 1) (k : V p l e R s m args below meth c Q nL H lo n L st) : V p l e R s m args below meth c Q nL H lo pc L (v :: st) := by
  obtain ⟨hd, rfl⟩ := hd
  exact fun ls hl => lv_pop X.1 X.2.1 hd hv (k ls hl)
theorem r_dup_x1 (X : Ctx p R s m args meth c cc nL own b BC BS S0 FR LO) {v w : Value} (hd : Dc cc pc .dup_x1 1 n) (hv : v.category = 1) (hw : w.category = 1) (k : V p l e R s m args below meth c Q nL H lo n L (v :: w :: v :: st)) : V p l e R s m args below meth c Q nL H lo pc L (v :: w :: st) := by
  obtain ⟨hd, rfl⟩ := hd
  exact fun ls hl => lv_dup_x1 X.1 X.2.1 hd hv hw (k ls hl)
theorem r_dup2 (X : Ctx p R s m args meth c cc nL own b BC BS S0 FR LO) {v w : Value} (hd : Dc cc pc .dup2 1 n) (hv : v.category = 1) (hw : w.category = 1) (k : V p l e R s m args below meth c Q nL H lo n L (v :: w :: v :: w :: st)) : V p l e R s m args below meth c Q nL H lo pc L (v :: w :: st) := by
  obtain ⟨hd, rfl⟩ := hd
  exact fun ls hl => lv_dup2_11 X.1 X.2.1 hd hv hw (k ls hl)
theorem r_goto (X : Ctx p R s m args meth c cc nL own b BC BS S0 FR LO) {off : Int} {tgt : Nat} (hd : Dc cc pc (.goto off) 3 n) (ht : (pc : Int) + off = (tgt : Int)) (k : V p l e R s m args below meth c Q nL H lo tgt L st) : V p l e R s m args below meth c Q nL H lo pc L st := by
  obtain ⟨hd, rfl⟩ := hd
  exact fun ls hl => lv_goto X.1 X.2.1 hd ht (k ls hl)
theorem r_iadd (X : Ctx p R s m args meth c cc nL own b BC BS S0 FR LO) {x y z : Int32} (hd : Dc cc pc .iadd 1 n) (hz : x + y = z) (k : V p l e R s m args below meth c Q nL H lo n L (.int z :: st)) : V p l e R s m args below meth c Q nL H lo pc L (.int y :: .int x :: st) := by
  obtain ⟨hd, rfl⟩ := hd
  subst hz
  exact fun ls hl => lv_iadd X.1 X.2.1 hd (k ls hl)
theorem r_isub (X : Ctx p R s m args meth c cc nL own b BC BS S0 FR LO) {x y z : Int32} (hd : Dc cc pc .isub 1 n) (hz : x - y = z) (k : V p l e R s m args below meth c Q nL H lo n L (.int z :: st)) : V p l e R s m args below meth c Q nL H lo pc L (.int y :: .int x :: st) := by
  obtain ⟨hd, rfl⟩ := hd
  subst hz
  exact fun ls hl => lv_isub X.1 X.2.1 hd (k ls hl)
theorem r_imul (X : Ctx p R s m args meth c cc nL own b BC BS S0 FR LO) {x y z : Int32} (hd : Dc cc pc .imul 1 n) (hz : x * y = z) (k : V p l e R s m args below meth c Q nL H lo n L (.int z :: st)) : V p l e R s m args below meth c Q nL H lo pc L (.int y :: .int x :: st) := by
  obtain ⟨hd, rfl⟩ := hd
  subst hz
  exact fun ls hl => lv_imul X.1 X.2.1 hd (k ls hl)
theorem r_iand (X : Ctx p R s m args meth c cc nL own b BC BS S0 FR LO) {x y z : Int32} (hd : Dc cc pc .iand 1 n) (hz : x &&& y = z) (k : V p l e R s m args below meth c Q nL H lo n L (.int z :: st)) : V p l e R s m args below meth c Q nL H lo pc L (.int y :: .int x :: st) := by
  obtain ⟨hd, rfl⟩ := hd
  subst hz
  exact fun ls hl => lv_iand X.1 X.2.1 hd (k ls hl)
theorem r_ior (X : Ctx p R s m args meth c cc nL own b BC BS S0 FR LO) {x y z : Int32} (hd : Dc cc pc .ior 1 n) (hz : x ||| y = z) (k : V p l e R s m args below meth c Q nL H lo n L (.int z :: st)) : V p l e R s m args below meth c Q nL H lo pc L (.int y :: .int x :: st) := by
  obtain ⟨hd, rfl⟩ := hd
  subst hz
  exact fun ls hl => lv_ior X.1 X.2.1 hd (k ls hl)
theorem r_ixor (X : Ctx p R s m args meth c cc nL own b BC BS S0 FR LO) {x y z : Int32} (hd : Dc cc pc .ixor 1 n) (hz : x ^^^ y = z) (k : V p l e R s m args below meth c Q nL H lo n L (.int z :: st)) : V p l e R s m args below meth c Q nL H lo pc L (.int y :: .int x :: st) := by
  obtain ⟨hd, rfl⟩ := hd
  subst hz
  exact fun ls hl => lv_ixor X.1 X.2.1 hd (k ls hl)
theorem r_ishl (X : Ctx p R s m args meth c cc nL own b BC BS S0 FR LO) {x y z : Int32} (hd : Dc cc pc .ishl 1 n) (hz : x <<< (y &&& 31) = z) (k : V p l e R s m args below meth c Q nL H lo n L (.int z :: st)) : V p l e R s m args below meth c Q nL H lo pc L (.int y :: .int x :: st) := by
  obtain ⟨hd, rfl⟩ := hd
  subst hz
  exact fun ls hl => lv_ishl X.1 X.2.1 hd (k ls hl)
theorem r_ishr (X : Ctx p R s m args meth c cc nL own b BC BS S0 FR LO) {x y z : Int32} (hd : Dc cc pc .ishr 1 n) (hz : x >>> (y &&& 31) = z) (k : V p l e R s m args below meth c Q nL H lo n L (.int z :: st)) : V p l e R s m args below meth c Q nL H lo pc L (.int y :: .int x :: st) := by
  obtain ⟨hd, rfl⟩ := hd
  subst hz
  exact fun ls hl => lv_ishr X.1 X.2.1 hd (k ls hl)
theorem r_idiv (X : Ctx p R s m args meth c cc nL own b BC BS S0 FR LO) {x y z : Int32} (hd : Dc cc pc .idiv 1 n) (h0 : ¬ y = 0) (hz : x / y = z) (k : V p l e R s m args below meth c Q nL H lo n L (.int z :: st)) : V p l e R s m args below meth c Q nL H lo pc L (.int y :: .int x :: st) := by
  obtain ⟨hd, rfl⟩ := hd
  subst hz
  exact fun ls hl => lv_idiv X.1 X.2.1 hd h0 (k ls hl)
theorem r_irem (X : Ctx p R s m args meth c cc nL own b BC BS S0 FR LO) {x y z : Int32} (hd : Dc cc pc .irem 1 n) (h0 : ¬ y = 0) (hz : x - x / y * y = z) (k : V p l e R s m args below meth c Q nL H lo n L (.int z :: st)) : V p l e R s m args below meth c Q nL H lo pc L (.int y :: .int x :: st) := by
  obtain ⟨hd, rfl⟩ := hd
  subst hz
  exact fun ls hl => lv_irem X.1 X.2.1 hd h0 (k ls hl)
theorem r_icmpeq (X : Ctx p R s m args meth c cc nL own b BC BS S0 FR LO) {x y : Int32} {off : Int} {tgt : Nat} {P : Prop} (hP : x = y ↔ P) (hd : Dc cc pc (.if_icmp .eq off) 3 n) (ht : (pc : Int) + off = (tgt : Int)) (k1 : P → V p l e R s m args below meth c Q nL H lo tgt L st) (k2 : ¬ P → V p l e R s m args below meth c Q nL H lo n L st) : V p l e R s m args below meth c Q nL H lo pc L (.int y :: .int x :: st) := by
  obtain ⟨hd, rfl⟩ := hd
  exact fun ls hl => lv_icmp_eq X.1 X.2.1 hd ht (fun h => k1 (hP.mp h) ls hl) (fun h => k2 (fun z => h (hP.mpr z)) ls hl)
theorem r_ifeq (X : Ctx p R s m args meth c cc nL own b BC BS S0 FR LO) {x : Int32} {off : Int} {tgt : Nat} {P : Prop} (hP : x = 0 ↔ P) (hd : Dc cc pc (.ifCond .eq off) 3 n) (ht : (pc : Int) + off = (tgt : Int)) (k1 : P → V p l e R s m args below meth c Q nL H lo tgt L st) (k2 : ¬ P → V p l e R s m args below meth c Q nL H lo n L st) : V p l e R s m args below meth c Q nL H lo pc L (.int x :: st) := by
  obtain ⟨hd, rfl⟩ := hd
  exact fun ls hl => lv_if_eq X.1 X.2.1 hd ht (fun h => k1 (hP.mp h) ls hl) (fun h => k2 (fun z => h (hP.mpr z)) ls hl)
theorem r_icmpne (X : Ctx p R s m args meth c cc nL own b BC BS S0 FR LO) {x y : Int32} {off : Int} {tgt : Nat} {P : Prop} (hP : x = y ↔ P) (hd : Dc cc pc (.if_icmp .ne off) 3 n) (ht : (pc : Int) + off = (tgt : Int)) (k1 : ¬ P → V p l e R s m args below meth c Q nL H lo tgt L st) (k2 : P → V p l e R s m args below meth c Q nL H lo n L st) : V p l e R s m args below meth c Q nL H lo pc L (.int y :: .int x :: st) := by
  obtain ⟨hd, rfl⟩ := hd
  exact fun ls hl => lv_icmp_ne X.1 X.2.1 hd ht (fun h => k1 (fun z => h (hP.mpr z)) ls hl) (fun h => k2 (hP.mp h) ls hl)
theorem r_ifne (X : Ctx p R s m args meth c cc nL own b BC BS S0 FR LO) {x : Int32} {off : Int} {tgt : Nat} {P : Prop} (hP : x = 0 ↔ P) (hd : Dc cc pc (.ifCond .ne off) 3 n) (ht : (pc : Int) + off = (tgt : Int)) (k1 : ¬ P → V p l e R s m args below meth c Q nL H lo tgt L st) (k2 : P → V p l e R s m args below meth c Q nL H lo n L st) : V p l e R s m args below meth c Q nL H lo pc L (.int x :: st) := by
  obtain ⟨hd, rfl⟩ := hd
  exact fun ls hl => lv_if_ne X.1 X.2.1 hd ht (fun h => k1 (fun z => h (hP.mpr z)) ls hl) (fun h => k2 (hP.mp h) ls hl)
theorem r_icmplt (X : Ctx p R s m args meth c cc nL own b BC BS S0 FR LO) {x y : Int32} {off : Int} {tgt : Nat} {P : Prop} (hP : x < y ↔ P) (hd : Dc cc pc (.if_icmp .lt off) 3 n) (ht : (pc : Int) + off = (tgt : Int)) (k1 : P → V p l e R s m args below meth c Q nL H lo tgt L st) (k2 : ¬ P → V p l e R s m args below meth c Q nL H lo n L st) : V p l e R s m args below meth c Q nL H lo pc L (.int y :: .int x :: st) := by
  obtain ⟨hd, rfl⟩ := hd
  exact fun ls hl => lv_icmp_lt X.1 X.2.1 hd ht (fun h => k1 (hP.mp h) ls hl) (fun h => k2 (fun z => h (hP.mpr z)) ls hl)
theorem r_iflt (X : Ctx p R s m args meth c cc nL own b BC BS S0 FR LO) {x : Int32} {off : Int} {tgt : Nat} {P : Prop} (hP : x < 0 ↔ P) (hd : Dc cc pc (.ifCond .lt off) 3 n) (ht : (pc : Int) + off = (tgt : Int)) (k1 : P → V p l e R s m args below meth c Q nL H lo tgt L st) (k2 : ¬ P → V p l e R s m args below meth c Q nL H lo n L st) : V p l e R s m args below meth c Q nL H lo pc L (.int x :: st) := by
  obtain ⟨hd, rfl⟩ := hd
  exact fun ls hl => lv_if_lt X.1 X.2.1 hd ht (fun h => k1 (hP.mp h) ls hl) (fun h => k2 (fun z => h (hP.mpr z)) ls hl)
theorem r_icmpge (X : Ctx p R s m args meth c cc nL own b BC BS S0 FR LO) {x y : Int32} {off : Int} {tgt : Nat} {P : Prop} (hP : y ≤ x ↔ P) (hd : Dc cc pc (.if_icmp .ge off) 3 n) (ht : (pc : Int) + off = (tgt : Int)) (k1 : P → V p l e R s m args below meth c Q nL H lo tgt L st) (k2 : ¬ P → V p l e R s m args below meth c Q nL H lo n L st) : V p l e R s m args below meth c Q nL H lo pc L (.int y :: .int x :: st) := by
  obtain ⟨hd, rfl⟩ := hd
  exact fun ls hl => lv_icmp_ge X.1 X.2.1 hd ht (fun h => k1 (hP.mp h) ls hl) (fun h => k2 (fun z => h (hP.mpr z)) ls hl)
theorem r_ifge (X : Ctx p R s m args meth c cc nL own b BC BS S0 FR LO) {x : Int32} {off : Int} {tgt : Nat} {P : Prop} (hP : 0 ≤ x ↔ P) (hd : Dc cc pc (.ifCond .ge off) 3 n) (ht : (pc : Int) + off = (tgt : Int)) (k1 : P → V p l e R s m args below meth c Q nL H lo tgt L st) (k2 : ¬ P → V p l e R s m args below meth c Q nL H lo n L st) : V p l e R s m args below meth c Q nL H lo pc L (.int x :: st) := by
  obtain ⟨hd, rfl⟩ := hd
  exact fun ls hl => lv_if_ge X.1 X.2.1 hd ht (fun h => k1 (hP.mp h) ls hl) (fun h => k2 (fun z => h (hP.mpr z)) ls hl)
theorem r_icmpgt (X : Ctx p R s m args meth c cc nL own b BC BS S0 FR LO) {x y : Int32} {off : Int} {tgt : Nat} {P : Prop} (hP : y < x ↔ P) (hd : Dc cc pc (.if_icmp .gt off) 3 n) (ht : (pc : Int) + off = (tgt : Int)) (k1 : P → V p l e R s m args below meth c Q nL H lo tgt L st) (k2 : ¬ P → V p l e R s m args below meth c Q nL H lo n L st) : V p l e R s m args below meth c Q nL H lo pc L (.int y :: .int x :: st) := by
  obtain ⟨hd, rfl⟩ := hd
  exact fun ls hl => lv_icmp_gt X.1 X.2.1 hd ht (fun h => k1 (hP.mp h) ls hl) (fun h => k2 (fun z => h (hP.mpr z)) ls hl)
theorem r_ifgt (X : Ctx p R s m args meth c cc nL own b BC BS S0 FR LO) {x : Int32} {off : Int} {tgt : Nat} {P : Prop} (hP : 0 < x ↔ P) (hd : Dc cc pc (.ifCond .gt off) 3 n) (ht : (pc : Int) + off = (tgt : Int)) (k1 : P → V p l e R s m args below meth c Q nL H lo tgt L st) (k2 : ¬ P → V p l e R s m args below meth c Q nL H lo n L st) : V p l e R s m args below meth c Q nL H lo pc L (.int x :: st) := by
  obtain ⟨hd, rfl⟩ := hd
  exact fun ls hl => lv_if_gt X.1 X.2.1 hd ht (fun h => k1 (hP.mp h) ls hl) (fun h => k2 (fun z => h (hP.mpr z)) ls hl)
theorem r_icmple (X : Ctx p R s m args meth c cc nL own b BC BS S0 FR LO) {x y : Int32} {off : Int} {tgt : Nat} {P : Prop} (hP : x ≤ y ↔ P) (hd : Dc cc pc (.if_icmp .le off) 3 n) (ht : (pc : Int) + off = (tgt : Int)) (k1 : P → V p l e R s m args below meth c Q nL H lo tgt L st) (k2 : ¬ P → V p l e R s m args below meth c Q nL H lo n L st) : V p l e R s m args below meth c Q nL H lo pc L (.int y :: .int x :: st) := by
  obtain ⟨hd, rfl⟩ := hd
  exact fun ls hl => lv_icmp_le X.1 X.2.1 hd ht (fun h => k1 (hP.mp h) ls hl) (fun h => k2 (fun z => h (hP.mpr z)) ls hl)
theorem r_ifle (X : Ctx p R s m args meth c cc nL own b BC BS S0 FR LO) {x : Int32} {off : Int} {tgt : Nat} {P : Prop} (hP : x ≤ 0 ↔ P) (hd : Dc cc pc (.ifCond .le off) 3 n) (ht : (pc : Int) + off = (tgt : Int)) (k1 : P → V p l e R s m args below meth c Q nL H lo tgt L st) (k2 : ¬ P → V p l e R s m args below meth c Q nL H lo n L st) : V p l e R s m args below meth c Q nL H lo pc L (.int x :: st) := by
  obtain ⟨hd, rfl⟩ := hd
  exact fun ls hl => lv_if_le X.1 X.2.1 hd ht (fun h => k1 (hP.mp h) ls hl) (fun h => k2 (fun z => h (hP.mpr z)) ls hl)
end RW
