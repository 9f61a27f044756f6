/-! ROWS of the heap: fields, arrays, new, casts, statics -/
/-- a field reference: class own, entry idx: field k of class ci -/
def FLk (own : String) (idx ci k : Nat) (C : String) (T : u_T) (N : Nat) (ty : Nat → FieldType) : Prop :=
  ClsOK ci C T N ty ∧ k < N ∧ ∃ ref : String, (Cond.fieldLink own idx ref (T k).2.1 (T k).2.2.1 ∈ tblG ∨ ∃ host : String, Cond.fieldLinkNest own idx ref (T k).2.1 (T k).2.2.1 host ∈ nbW) ∧ (ref = (T k).1 ∨ Cond.sameField ref (T k).1 (T k).2.1 (T k).2.2.1 ∈ tblG)
theorem upN {f : Nat → Nat} {i x : Nat} (hi : i < 2 ^ 31) : upd (fun j => nI (f j)) (nI i).toNatClampNeg (nI x) = fun j => nI (va_up f i x j) := by
  funext j
  rw [nI_clamp hi]
  simp only [upd, va_up]
  split <;> rfl
theorem upZ {f : Nat → Int} {i : Nat} {x : Int} (hi : i < 2 ^ 31) : upd (fun j => iI (f j)) (nI i).toNatClampNeg (iI x) = fun j => iI (va_up f i x j) := by
  funext j
  rw [nI_clamp hi]
  simp only [upd, va_up]
  split <;> rfl
theorem nar_bI (x : Bool) : vp_nar .boolean (bI x) = bI x := by cases x <;> rfl
theorem upB {f : Nat → Bool} {i : Nat} {x : Bool} (hi : i < 2 ^ 31) : upd (fun j => bI (f j)) (nI i).toNatClampNeg (vp_nar .boolean (bI x)) = fun j => bI (va_up f i x j) := by
  funext j
  rw [nI_clamp hi, nar_bI]
  simp only [upd, va_up]
  split <;> rfl
theorem upL {f : Nat → Nat} {i x : Nat} (hi : i < 2 ^ 31) : vp_updL (fun j => lN (f j)) (nI i).toNatClampNeg (lN x) = fun j => lN (va_up f i x j) := by
  funext j
  rw [nI_clamp hi]
  simp only [vp_updL, va_up]
  split <;> rfl
section RH
variable {p : Program} {l : Launch} {e : Env} {R : Room} {s : State} {m : MethodId} {args : Array Value} {below : List Frame} {meth : Method} {c : Code} {Q : State → Prop} {cc : ByteArray} {nL : Nat} {own : String} {b : BK} {BC BS S0 FR LO : Nat} {H : Heap} {lo : List Loc} {pc n : Nat} {L L' : List (Nat × Value)} {st st' : List Value} {A : Nat → Prop} {Ws Ws' : List va_W} {w : va_W} {sz sl a : Nat}
theorem fl_same (X : Ctx p R s m args meth c cc nL own b BC BS S0 FR LO) {ref C n d : String} (h : ref = C ∨ Cond.sameField ref C n d ∈ tblG) : ∀ x, s.fieldFound? C n d = some x → s.fieldFound? ref n d = some x := by
  rcases h with rfl | h
  · exact fun x hx => hx
  · exact u_same (X.2.2.2.2.1 _ h)
theorem r_get (X : Ctx p R s m args meth c cc nL own b BC BS S0 FR LO) (hw : Wd b BC BS S0 s A Ws sz sl H lo) {idx ci k N : Nat} {C : String} {T : u_T} {ty : Nat → FieldType} (F : FLk own idx ci k C T N ty) (hd : Dc cc pc (.getfield idx) 3 n) (i j : Nat) {fs : List Value} {v : Value} (hi : Ws[i]? = some w) (hj : w[j]? = some (a, .inr (ci, fs))) (hv : fs[k]? = some v)
    (kk : V p l e R s m args below meth c Q nL H lo n L (v :: st)) : V p l e R s m args below meth c Q nL H lo pc L (.ref a :: st) := by
  obtain ⟨hd, rfl⟩ := hd
  obtain ⟨⟨hc, hin, -, -⟩, hk, ref, hl, hs⟩ := F
  obtain ⟨q, hq, -⟩ := fl_at hi hj
  have hsame := fl_same X hs
  intro ls hls
  rcases hl with hl | ⟨host, hl⟩
  · exact va_get (D := b.1) X.1 X.2.1 X.2.2.2.2.1 hin X.2.2.2.1 X.2.2.2.2.2.1.1 hw.1 q hq hc k hk (X.2.2.2.2.1 _ hl) hsame hv hd (kk ls hls)
  · exact va_getN (D := b.1) X.1 X.2.1 X.2.2.2.2.1 hin X.2.2.2.1 X.2.2.2.2.2.1.1 hw.1 q hq hc k hk (va_Nw.use rfl (X.2.2.2.2.2.1.2.1 _ hl)) hsame hv hd (kk ls hls)
theorem put_k (hw : Wd b BC BS S0 s A Ws sz sl H lo) (h0 : slH s.heap ≤ slH H) {ls : Array Slot} (hl : lv_has ls nL L) (kk : ∀ (H1 : Heap) (lo1 : List Loc), Wd b BC BS S0 s A Ws' sz sl H1 lo1 → V p l e R s m args below meth c Q nL H1 lo1 n L st) :
    ∀ (H1 : Heap) (lo1 : List Loc), va_P b.1 CL Ws'.flatten H1 → va_D A Ws'.flatten → va_S A H H1 lo1 → W p l e R s m args below meth c H1 lo1 (H.size - s.heap.size) (slH H - slH s.heap) Q (F0 m n ls st) := by
  intro H1 lo1 hP hD hS
  obtain ⟨a1, a2, a3, a4, a5, a6, a7, a8, a9, a10⟩ := hw
  have e1 : s.heap.size ≤ H.size := a3.1
  have e2 : H.size ≤ H1.size := hS.1
  refine W_bound fun g1 g2 g3 g4 => kk H1 lo1 ⟨hP, hD, ⟨by omega, fun q h1 h2 => (hS.2.1 q (by omega) h2).trans (a3.2.1 q h1 h2), hS.2.2⟩, a4, a5, ⟨Nat.le_trans a6.1 e2, fun q hq => (hS.2.1 q (Nat.lt_of_lt_of_le hq a6.1) (fun z => absurd (a5 q z) (by omega))).trans (a6.2 q hq)⟩, by omega, by omega, a9, a10⟩ ls hl
theorem r_put (X : Ctx p R s m args meth c cc nL own b BC BS S0 FR LO) (hw : Wd b BC BS S0 s A Ws sz sl H lo) {idx ci k N : Nat} {C : String} {T : u_T} {ty : Nat → FieldType} (F : FLk own idx ci k C T N ty) (hd : Dc cc pc (.putfield idx) 3 n) (i j : Nat) {fs : List Value} {v : Value} (hi : Ws[i]? = some w) (hj : w[j]? = some (a, .inr (ci, fs))) (hfin : (T k).2.2.2 = false) (hn : narrow (ty k) v = v) (hfit : fits (ty k) v = true) (hlen : k < fs.length) (hW : Ws.set i (w.set j (a, .inr (ci, fs.set k v))) = Ws')
    (kk : ∀ (H1 : Heap) (lo1 : List Loc), Wd b BC BS S0 s A Ws' sz sl H1 lo1 → V p l e R s m args below meth c Q nL H1 lo1 n L st) : V p l e R s m args below meth c Q nL H lo pc L (v :: .ref a :: st) := by
  obtain ⟨hd, rfl⟩ := hd
  obtain ⟨⟨hc, hin, hty, hnm⟩, hk, ref, hl, hs⟩ := F
  obtain ⟨q, hq, hset⟩ := fl_at hi hj
  have hsame := fl_same X hs
  refine V_le fun _ h0 ls hls => ?_
  subst hW
  have hS : va_S A H H lo := ⟨Nat.le_refl _, fun _ _ _ => rfl, hw.2.2.1.2.2⟩
  have kk2 := put_k hw h0 hls kk
  rw [← hset] at kk2
  rcases hl with hl | ⟨host, hl⟩
  · exact va_put (D := b.1) X.1 X.2.1 X.2.2.2.2.1 hin ty hty hnm X.2.2.2.1 X.2.2.2.2.2.1.1 hw.1 hw.2.1 hS q hq hc k hk (X.2.2.2.2.1 _ hl) hsame hfin (hty k hk) hn hfit hlen hd kk2
  · exact va_putN (D := b.1) X.1 X.2.1 X.2.2.2.2.1 hin ty hty hnm X.2.2.2.1 X.2.2.2.2.2.1.1 hw.1 hw.2.1 hS q hq hc k hk (va_Nw.use rfl (X.2.2.2.2.2.1.2.1 _ hl)) hsame hfin (hty k hk) hn hfit hlen hd kk2
theorem r_putF (X : Ctx p R s m args meth c cc nL own b BC BS S0 FR LO) (hini : meth.name = "<init>") (hw : Wd b BC BS S0 s A Ws sz sl H lo) {idx ci k N : Nat} {C : String} {T : u_T} {ty : Nat → FieldType} (F : FLk own idx ci k C T N ty) (hd : Dc cc pc (.putfield idx) 3 n) (i j : Nat) {fs : List Value} {v : Value} (hi : Ws[i]? = some w) (hj : w[j]? = some (a, .inr (ci, fs))) (hfin : (T k).2.2.2 = true) (hdecl : (T k).1 = own) (hn : narrow (ty k) v = v) (hfit : fits (ty k) v = true) (hlen : k < fs.length) (hW : Ws.set i (w.set j (a, .inr (ci, fs.set k v))) = Ws')
    (hlk : ∃ ref, Cond.fieldLink own idx ref (T k).2.1 (T k).2.2.1 ∈ tblG ∧ ref = (T k).1)
    (kk : ∀ (H1 : Heap) (lo1 : List Loc), Wd b BC BS S0 s A Ws' sz sl H1 lo1 → V p l e R s m args below meth c Q nL H1 lo1 n L st) : V p l e R s m args below meth c Q nL H lo pc L (v :: .ref a :: st) := by
  obtain ⟨hd, rfl⟩ := hd
  obtain ⟨⟨hc, hin, hty, hnm⟩, hk, -⟩ := F
  obtain ⟨ref, hl, hs⟩ := hlk
  obtain ⟨q, hq, hset⟩ := fl_at hi hj
  have hsame := fl_same X (C := (T k).1) (n := (T k).2.1) (d := (T k).2.2.1) (Or.inl hs)
  refine V_le fun _ h0 ls hls => ?_
  subst hW
  have hS : va_S A H H lo := ⟨Nat.le_refl _, fun _ _ _ => rfl, hw.2.2.1.2.2⟩
  have kk2 := put_k hw h0 hls kk
  rw [← hset] at kk2
  exact va_putF (D := b.1) X.1 X.2.1 X.2.2.2.2.1 hin ty hty hnm X.2.2.2.1 X.2.2.2.2.2.1.1 hw.1 hw.2.1 hS q hq hc k hk (X.2.2.2.2.1 _ hl) hsame hfin hini hdecl (hty k hk) hn hfit hlen hd kk2
-- arrays
theorem r_alen (X : Ctx p R s m args meth c cc nL own b BC BS S0 FR LO) (hw : Wd b BC BS S0 s A Ws sz sl H lo) (hd : Dc cc pc .arraylength 1 n) (i j t : Nat) {x : vp_A} {ty : FieldType} (hi : Ws[i]? = some w) (hj : w[j]? = some (a, .inl (b.2.1 t, x))) (ht : (TY b)[t]? = some (b.2.1 t, ty)) (kk : V p l e R s m args below meth c Q nL H lo n L (.int (nI x.1) :: st)) : V p l e R s m args below meth c Q nL H lo pc L (.ref a :: st) := by
  obtain ⟨hd, rfl⟩ := hd
  obtain ⟨q, hq, -⟩ := fl_at hi hj
  exact fun ls hl => va_alen (D := b.1) X.1 X.2.1 X.2.2.2.2.2.1.1 hw.1 q t hq ht rfl hd (kk ls hl)
theorem r_ialdN (X : Ctx p R s m args meth c cc nL own b BC BS S0 FR LO) (hw : Wd b BC BS S0 s A Ws sz sl H lo) (hd : Dc cc pc .iaload 1 n) (i j : Nat) {len k : Nat} {f : Nat → Nat} (hi : Ws[i]? = some w) (hj : w[j]? = some (cN b a len f)) (hk : k < len) (h2 : k < 2 ^ 31) (kk : V p l e R s m args below meth c Q nL H lo n L (.int (nI (f k)) :: st)) : V p l e R s m args below meth c Q nL H lo pc L (.int (nI k) :: .ref a :: st) := by
  obtain ⟨hd, rfl⟩ := hd
  obtain ⟨q, hq, -⟩ := fl_at hi hj
  intro ls hl
  refine va_iald (D := b.1) X.1 X.2.1 X.2.2.2.2.2.1.1 hw.1 q 0 hq rfl ?_ hd ?_
  · intro z
    rcases z with z | z
    · exact nI_pos h2 z
    · rw [nI_clamp h2] at z
      omega
  · rw [nI_clamp h2]
    exact kk ls hl
theorem r_ialdZ (X : Ctx p R s m args meth c cc nL own b BC BS S0 FR LO) (hw : Wd b BC BS S0 s A Ws sz sl H lo) (hd : Dc cc pc .iaload 1 n) (i j : Nat) {len k : Nat} {f : Nat → Int} (hi : Ws[i]? = some w) (hj : w[j]? = some (cZ b a len f)) (hk : k < len) (h2 : k < 2 ^ 31) (kk : V p l e R s m args below meth c Q nL H lo n L (.int (iI (f k)) :: st)) : V p l e R s m args below meth c Q nL H lo pc L (.int (nI k) :: .ref a :: st) := by
  obtain ⟨hd, rfl⟩ := hd
  obtain ⟨q, hq, -⟩ := fl_at hi hj
  intro ls hl
  refine va_iald (D := b.1) X.1 X.2.1 X.2.2.2.2.2.1.1 hw.1 q 0 hq rfl ?_ hd ?_
  · intro z
    rcases z with z | z
    · exact nI_pos h2 z
    · rw [nI_clamp h2] at z
      omega
  · rw [nI_clamp h2]
    exact kk ls hl
theorem r_baldB (X : Ctx p R s m args meth c cc nL own b BC BS S0 FR LO) (hw : Wd b BC BS S0 s A Ws sz sl H lo) (hd : Dc cc pc .baload 1 n) (i j : Nat) {len k : Nat} {f : Nat → Bool} (hi : Ws[i]? = some w) (hj : w[j]? = some (cB b a len f)) (hk : k < len) (h2 : k < 2 ^ 31) (kk : V p l e R s m args below meth c Q nL H lo n L (.int (bI (f k)) :: st)) : V p l e R s m args below meth c Q nL H lo pc L (.int (nI k) :: .ref a :: st) := by
  obtain ⟨hd, rfl⟩ := hd
  obtain ⟨q, hq, -⟩ := fl_at hi hj
  intro ls hl
  refine va_zald (D := b.1) X.1 X.2.1 X.2.2.2.2.2.1.1 hw.1 q 1 hq rfl ?_ hd ?_
  · intro z
    rcases z with z | z
    · exact nI_pos h2 z
    · rw [nI_clamp h2] at z
      omega
  · rw [nI_clamp h2]
    exact kk ls hl
theorem r_laldL (X : Ctx p R s m args meth c cc nL own b BC BS S0 FR LO) (hw : Wd b BC BS S0 s A Ws sz sl H lo) (hd : Dc cc pc .laload 1 n) (i j : Nat) {len k : Nat} {f : Nat → Nat} (hi : Ws[i]? = some w) (hj : w[j]? = some (cL b a len f)) (hk : k < len) (h2 : k < 2 ^ 31) (kk : V p l e R s m args below meth c Q nL H lo n L (.long (lN (f k)) :: st)) : V p l e R s m args below meth c Q nL H lo pc L (.int (nI k) :: .ref a :: st) := by
  obtain ⟨hd, rfl⟩ := hd
  obtain ⟨q, hq, -⟩ := fl_at hi hj
  intro ls hl
  refine va_lald (D := b.1) X.1 X.2.1 X.2.2.2.2.2.1.1 hw.1 q 2 hq rfl ?_ hd ?_
  · intro z
    rcases z with z | z
    · exact nI_pos h2 z
    · rw [nI_clamp h2] at z
      omega
  · rw [nI_clamp h2]
    exact kk ls hl
theorem r_aald (X : Ctx p R s m args meth c cc nL own b BC BS S0 FR LO) (hw : Wd b BC BS S0 s A Ws sz sl H lo) (hd : Dc cc pc .aaload 1 n) (i j t : Nat) {C : String} {len k : Nat} {f : Nat → Option Nat} (hi : Ws[i]? = some w) (hj : w[j]? = some (cR b t a len f)) (ht : (TY b)[t]? = some (b.2.1 t, .object C)) (hk : k < len) (h2 : k < 2 ^ 31) {v : Value} (hv : va_rf (f k) = v) (kk : V p l e R s m args below meth c Q nL H lo n L (v :: st)) : V p l e R s m args below meth c Q nL H lo pc L (.int (nI k) :: .ref a :: st) := by
  obtain ⟨hd, rfl⟩ := hd
  obtain ⟨q, hq, -⟩ := fl_at hi hj
  subst hv
  intro ls hl
  refine va_aldq (D := b.1) X.1 X.2.1 X.2.2.2.2.2.1.1 hw.1 q t hq ht ?_ hd ?_
  · intro z
    rcases z with z | z
    · exact nI_pos h2 z
    · rw [nI_clamp h2] at z
      omega
  · rw [nI_clamp h2]
    exact kk ls hl
theorem r_iastN (X : Ctx p R s m args meth c cc nL own b BC BS S0 FR LO) (hw : Wd b BC BS S0 s A Ws sz sl H lo) (hd : Dc cc pc .iastore 1 n) (i j : Nat) {len k x : Nat} {f : Nat → Nat} (hi : Ws[i]? = some w) (hj : w[j]? = some (cN b a len f)) (hk : k < len) (h2 : k < 2 ^ 31) (hW : Ws.set i (w.set j (cN b a len (va_up f k x))) = Ws') (kk : ∀ (H1 : Heap) (lo1 : List Loc), Wd b BC BS S0 s A Ws' sz sl H1 lo1 → V p l e R s m args below meth c Q nL H1 lo1 n L st) : V p l e R s m args below meth c Q nL H lo pc L (.int (nI x) :: .int (nI k) :: .ref a :: st) := by
  obtain ⟨hd, rfl⟩ := hd
  obtain ⟨q, hq, hset⟩ := fl_at hi hj
  refine V_le fun _ h0 ls hls => ?_
  subst hW
  have hS : va_S A H H lo := ⟨Nat.le_refl _, fun _ _ _ => rfl, hw.2.2.1.2.2⟩
  have kk2 := put_k hw h0 hls kk
  rw [← hset] at kk2
  refine va_iast (D := b.1) X.1 X.2.1 X.2.2.2.2.2.1.1 hw.1 hw.2.1 hS q 0 hq rfl ?_ hd ?_
  · intro z
    rcases z with z | z
    · exact nI_pos h2 z
    · rw [nI_clamp h2] at z
      omega
  · rw [upN h2]
    exact kk2
theorem r_iastZ (X : Ctx p R s m args meth c cc nL own b BC BS S0 FR LO) (hw : Wd b BC BS S0 s A Ws sz sl H lo) (hd : Dc cc pc .iastore 1 n) (i j : Nat) {len k : Nat} {x : Int} {f : Nat → Int} (hi : Ws[i]? = some w) (hj : w[j]? = some (cZ b a len f)) (hk : k < len) (h2 : k < 2 ^ 31) (hW : Ws.set i (w.set j (cZ b a len (va_up f k x))) = Ws') (kk : ∀ (H1 : Heap) (lo1 : List Loc), Wd b BC BS S0 s A Ws' sz sl H1 lo1 → V p l e R s m args below meth c Q nL H1 lo1 n L st) : V p l e R s m args below meth c Q nL H lo pc L (.int (iI x) :: .int (nI k) :: .ref a :: st) := by
  obtain ⟨hd, rfl⟩ := hd
  obtain ⟨q, hq, hset⟩ := fl_at hi hj
  refine V_le fun _ h0 ls hls => ?_
  subst hW
  have hS : va_S A H H lo := ⟨Nat.le_refl _, fun _ _ _ => rfl, hw.2.2.1.2.2⟩
  have kk2 := put_k hw h0 hls kk
  rw [← hset] at kk2
  refine va_iast (D := b.1) X.1 X.2.1 X.2.2.2.2.2.1.1 hw.1 hw.2.1 hS q 0 hq rfl ?_ hd ?_
  · intro z
    rcases z with z | z
    · exact nI_pos h2 z
    · rw [nI_clamp h2] at z
      omega
  · rw [upZ h2]
    exact kk2
theorem r_bastB (X : Ctx p R s m args meth c cc nL own b BC BS S0 FR LO) (hw : Wd b BC BS S0 s A Ws sz sl H lo) (hd : Dc cc pc .bastore 1 n) (i j : Nat) {len k : Nat} {x : Bool} {f : Nat → Bool} (hi : Ws[i]? = some w) (hj : w[j]? = some (cB b a len f)) (hk : k < len) (h2 : k < 2 ^ 31) (hW : Ws.set i (w.set j (cB b a len (va_up f k x))) = Ws') (kk : ∀ (H1 : Heap) (lo1 : List Loc), Wd b BC BS S0 s A Ws' sz sl H1 lo1 → V p l e R s m args below meth c Q nL H1 lo1 n L st) : V p l e R s m args below meth c Q nL H lo pc L (.int (bI x) :: .int (nI k) :: .ref a :: st) := by
  obtain ⟨hd, rfl⟩ := hd
  obtain ⟨q, hq, hset⟩ := fl_at hi hj
  refine V_le fun _ h0 ls hls => ?_
  subst hW
  have hS : va_S A H H lo := ⟨Nat.le_refl _, fun _ _ _ => rfl, hw.2.2.1.2.2⟩
  have kk2 := put_k hw h0 hls kk
  rw [← hset] at kk2
  refine va_zast (D := b.1) X.1 X.2.1 X.2.2.2.2.2.1.1 hw.1 hw.2.1 hS q 1 hq rfl ?_ hd ?_
  · intro z
    rcases z with z | z
    · exact nI_pos h2 z
    · rw [nI_clamp h2] at z
      omega
  · rw [upB h2]
    exact kk2
theorem r_lastL (X : Ctx p R s m args meth c cc nL own b BC BS S0 FR LO) (hw : Wd b BC BS S0 s A Ws sz sl H lo) (hd : Dc cc pc .lastore 1 n) (i j : Nat) {len k x : Nat} {f : Nat → Nat} (hi : Ws[i]? = some w) (hj : w[j]? = some (cL b a len f)) (hk : k < len) (h2 : k < 2 ^ 31) (hW : Ws.set i (w.set j (cL b a len (va_up f k x))) = Ws') (kk : ∀ (H1 : Heap) (lo1 : List Loc), Wd b BC BS S0 s A Ws' sz sl H1 lo1 → V p l e R s m args below meth c Q nL H1 lo1 n L st) : V p l e R s m args below meth c Q nL H lo pc L (.long (lN x) :: .int (nI k) :: .ref a :: st) := by
  obtain ⟨hd, rfl⟩ := hd
  obtain ⟨q, hq, hset⟩ := fl_at hi hj
  refine V_le fun _ h0 ls hls => ?_
  subst hW
  have hS : va_S A H H lo := ⟨Nat.le_refl _, fun _ _ _ => rfl, hw.2.2.1.2.2⟩
  have kk2 := put_k hw h0 hls kk
  rw [← hset] at kk2
  refine va_last (D := b.1) X.1 X.2.1 X.2.2.2.2.2.1.1 hw.1 hw.2.1 hS q 2 hq rfl ?_ hd ?_
  · intro z
    rcases z with z | z
    · exact nI_pos h2 z
    · rw [nI_clamp h2] at z
      omega
  · rw [upL h2]
    exact kk2
/-- null into an array of references -/
theorem r_aastN (X : Ctx p R s m args meth c cc nL own b BC BS S0 FR LO) (hw : Wd b BC BS S0 s A Ws sz sl H lo) (hd : Dc cc pc .aastore 1 n) (i j t : Nat) {C : String} {len k : Nat} {f : Nat → Option Nat} (hi : Ws[i]? = some w) (hj : w[j]? = some (cR b t a len f)) (ht : (TY b)[t]? = some (b.2.1 t, .object C)) (hk : k < len) (h2 : k < 2 ^ 31) (hW : Ws.set i (w.set j (cR b t a len (va_up f k none))) = Ws') (kk : ∀ (H1 : Heap) (lo1 : List Loc), Wd b BC BS S0 s A Ws' sz sl H1 lo1 → V p l e R s m args below meth c Q nL H1 lo1 n L st) : V p l e R s m args below meth c Q nL H lo pc L (.null :: .int (nI k) :: .ref a :: st) := by
  obtain ⟨hd, rfl⟩ := hd
  obtain ⟨q, hq, hset⟩ := fl_at hi hj
  refine V_le fun _ h0 ls hls => ?_
  subst hW
  have hS : va_S A H H lo := ⟨Nat.le_refl _, fun _ _ _ => rfl, hw.2.2.1.2.2⟩
  have kk2 := put_k hw h0 hls kk
  rw [← hset] at kk2
  refine va_astqN (D := b.1) X.1 X.2.1 X.2.2.2.2.2.1.1 hw.1 hw.2.1 hS q t hq ht ?_ hd ?_
  · intro z
    rcases z with z | z
    · exact nI_pos h2 z
    · rw [nI_clamp h2] at z
      omega
  · rw [nI_clamp h2]
    exact kk2
/-- an object of the world into an array of its own class, or of Object -/
theorem r_aastR (X : Ctx p R s m args meth c cc nL own b BC BS S0 FR LO) (hw : Wd b BC BS S0 s A Ws sz sl H lo) (hd : Dc cc pc .aastore 1 n) (i j t i2 j2 : Nat) {E : String} {len k v ci : Nat} {vs : List Value} {r : vw_C} {w2 : va_W} {f : Nat → Option Nat} (hi : Ws[i]? = some w) (hj : w[j]? = some (cR b t a len f)) (ht : (TY b)[t]? = some (b.2.1 t, .object E)) (hi2 : Ws[i2]? = some w2) (hj2 : w2[j2]? = some (v, .inr (ci, vs))) (hc : CL[ci]? = some r) (hcast : r.1 = E ∨ Cond.castable r.1 E ∈ nbW) (hk : k < len) (h2 : k < 2 ^ 31) (hW : Ws.set i (w.set j (cR b t a len (va_up f k (some v)))) = Ws') (kk : ∀ (H1 : Heap) (lo1 : List Loc), Wd b BC BS S0 s A Ws' sz sl H1 lo1 → V p l e R s m args below meth c Q nL H1 lo1 n L st) : V p l e R s m args below meth c Q nL H lo pc L (.ref v :: .int (nI k) :: .ref a :: st) := by
  obtain ⟨hd, rfl⟩ := hd
  obtain ⟨q, hq, hset⟩ := fl_at hi hj
  obtain ⟨q2, hq2, -⟩ := fl_at hi2 hj2
  have hK := X.2.2.2.2.2.1
  have hany : va_Any E s H v := by
    refine va_rAny hK.1 hw.1 hq2 hc ?_
    intro comp c0 h1 h2
    rcases hcast with e | e
    · rw [e, h1] at h2
      cases h2
      have := (hK.1.1 ci r hc).2
      rw [e] at this
      cases h1.symm.trans this.1
      exact va_assign this
    · obtain ⟨x, t0, f1, f2, f3⟩ := Cond.castable_spec (va_Nw.use (A := args) rfl (hK.2.1 _ e))
      cases f1.symm.trans h2
      cases f2.symm.trans h1
      exact f3
  refine V_le fun _ h0 ls hls => ?_
  subst hW
  have hS : va_S A H H lo := ⟨Nat.le_refl _, fun _ _ _ => rfl, hw.2.2.1.2.2⟩
  have kk2 := put_k hw h0 hls kk
  rw [← hset] at kk2
  refine va_astqM (D := b.1) X.1 X.2.1 hK.1 hw.1 hw.2.1 hS q t hq ht hany ?_ hd ?_
  · intro z
    rcases z with z | z
    · exact nI_pos h2 z
    · rw [nI_clamp h2] at z
      omega
  · rw [nI_clamp h2]
    exact kk2
-- new
theorem new_k {H1 : Heap} {N : Nat} {x : Nat × va_E} (hw : Wd b BC BS S0 s A Ws sz sl H lo) (h0 : slH s.heap ≤ slH H) (hx : va_at b.1 CL x H1) (hx1 : x.1 = sz) (hz : H1.size = H.size + 1) (hold : ∀ q : Nat, q < H.size → H1[q]? = H[q]?) (hN : szAt H1 H.size = N) (hc : sz + 1 ≤ BC) (hs : sl + N ≤ BS) : Wd b BC BS S0 s A (Ws ++ [[x]]) (sz + 1) (sl + N) H1 lo := by
  obtain ⟨a1, a2, a3, a4, a5, a6, a7, a8, a9, a10⟩ := hw
  have e1 : s.heap.size ≤ H.size := a3.1
  have e2 := slH_push hz hold hN
  have hfl : (Ws ++ [[x]]).flatten = Ws.flatten ++ [x] := by simp
  have hlt : ∀ y ∈ Ws.flatten, y.1 < H.size := fun y hy => (a1.mem hy).lt
  refine ⟨?_, ?_, ⟨by omega, fun q h1 h2 => (hold q (by omega)).trans (a3.2.1 q h1 h2), a3.2.2⟩, a4, a5, ⟨by have := a6.1; omega, fun q hq => (hold q (Nat.lt_of_lt_of_le hq a6.1)).trans (a6.2 q hq)⟩, by omega, by omega, hc, hs⟩
  · rw [hfl]
    refine va_P.of_mem fun y hy => ?_
    rcases List.mem_append.mp hy with h | h
    · exact (a1.mem h).kept (hold y.1 (hlt y h))
    · rw [List.mem_singleton.mp h]
      exact hx
  · rw [hfl]
    refine va_D.of_nodup ?_ ?_
    · rw [List.map_append, List.nodup_append]
      refine ⟨a2.nodup, by simp, ?_⟩
      intro u hu v hv e
      obtain ⟨y, hy, rfl⟩ := List.mem_map.mp hu
      simp at hv
      have := hlt y hy
      omega
    · intro y hy
      rcases List.mem_append.mp hy with h | h
      · exact a2.memA h
      · rw [List.mem_singleton.mp h, hx1]
        exact a4 sz (by omega)
theorem r_new (X : Ctx p R s m args meth c cc nL own b BC BS S0 FR LO) (hw : Wd b BC BS S0 s A Ws sz sl H lo) {idx ci N : Nat} {C : String} {T : u_T} {ty : Nat → FieldType} (F : ClsOK ci C T N ty) (hl : Cond.classLink own idx C ∈ tblG ∧ Cond.instantiable C N ∈ tblG ∧ Cond.initialized C ∈ tblG) (hd : Dc cc pc (.new idx) 3 n) {fs : List Value} (hfs : ∀ j, j < N → defaultValue (ty j) = vp_V fs j) (hc : sz + 1 ≤ BC) (hs : sl + N ≤ BS)
    (kk : ∀ (H1 : Heap), Wd b BC BS S0 s A (Ws ++ [[cO sz ci fs]]) (sz + 1) (sl + N) H1 lo → V p l e R s m args below meth c Q nL H1 lo n L (.ref sz :: st)) : V p l e R s m args below meth c Q nL H lo pc L st := by
  obtain ⟨hd, rfl⟩ := hd
  obtain ⟨hcl, hin, hty, -⟩ := F
  have hK := X.2.2.2.2.2.1.1
  have hKn := hK.1 ci _ hcl
  have hts := X.2.2.2.2.1
  refine V_le fun h00 h0 ls hls => ?_
  have a7 := hw.2.2.2.2.2.2.1
  have a8 := hw.2.2.2.2.2.2.2.1
  have r1 := X.2.2.2.2.2.2.1
  refine W.newcK X.1 X.2.1 X.2.2.2.1 (hts _ hl.1) (hts _ hl.2.1) (hts _ hl.2.2) rfl hd (by omega) (by omega) hKn.2.1 rfl fun H1 kC hkC e1 z1 o1 => ?_
  have hsz : szAt H1 H.size = N := by
    unfold szAt
    rw [e1]
    obtain ⟨cC, kC', g1, g2, -, g4⟩ := Cond.instantiable_spec (hts _ hl.2.1)
    cases hKn.2.1.symm.trans g1
    cases hkC.symm.trans g2
    simp [blank, g4]
  refine W_tight (?_ : W p l e R s m args below meth c H1 lo (H1.size - s.heap.size) (slH H1 - slH s.heap) Q (F0 m (pc + 3) ls (.ref H.size :: st)))
  rw [a7]
  refine kk H1 (new_k hw h0 ?_ rfl z1 o1 hsz hc hs) ls hls
  rw [← a7]
  exact ⟨_, hcl, (u_born ty hts hin hKn hkC e1 hty).to hfs⟩
theorem r_newN (X : Ctx p R s m args meth c cc nL own b BC BS S0 FR LO) (hw : Wd b BC BS S0 s A Ws sz sl H lo) (ha : Cond.arrayClass .int ∈ tblG) (hd : Dc cc pc (.newarray .int) 2 n) {len : Nat} (hlen : len ≤ 2 ^ 27) (hc : sz + 1 ≤ BC) (hs : sl + len ≤ BS)
    (kk : ∀ (H1 : Heap), Wd b BC BS S0 s A (Ws ++ [[cN b sz len (fun _ => 0)]]) (sz + 1) (sl + len) H1 lo → V p l e R s m args below meth c Q nL H1 lo n L (.ref sz :: st)) : V p l e R s m args below meth c Q nL H lo pc L (.int (nI len) :: st) := by
  obtain ⟨hd, rfl⟩ := hd
  have hK := X.2.2.2.2.2.1.1
  have hts := X.2.2.2.2.1
  refine V_le fun h00 h0 ls hls => ?_
  have a7 := hw.2.2.2.2.2.2.1
  have a8 := hw.2.2.2.2.2.2.2.1
  have r1 := X.2.2.2.2.2.2.1
  have h31 : len < 2 ^ 31 := by omega
  have hcb : componentBytes (newarray.typeOf .int) = 4 := rfl
  refine va_newaK (atype := .int) (N := len) X.1 X.2.1 (hts _ ha) rfl hd rfl (nI_pos h31) (nI_clamp h31) (by rw [hcb]; omega) (by omega) (by omega) rfl fun H1 cA e1 z1 o1 hAr hNm => ?_
  have hcA : cA = b.2.1 0 := Option.some.inj (hNm.symm.trans (hK.2 0 _ rfl).2)
  subst hcA
  have hsz : szAt H1 H.size = len := by
    unfold szAt
    rw [e1]
    exact arrV_size _ _ _
  refine W_tight (?_ : W p l e R s m args below meth c H1 lo (H1.size - s.heap.size) (slH H1 - slH s.heap) Q (F0 m (pc + 2) ls (.ref H.size :: st)))
  rw [a7]
  refine kk H1 (new_k hw h0 ?_ rfl z1 o1 hsz hc hs) ls hls
  rw [← a7]
  exact e1
theorem r_newB (X : Ctx p R s m args meth c cc nL own b BC BS S0 FR LO) (hw : Wd b BC BS S0 s A Ws sz sl H lo) (ha : Cond.arrayClass .boolean ∈ tblG) (hd : Dc cc pc (.newarray .boolean) 2 n) {len : Nat} (hlen : len ≤ 2 ^ 27) (hc : sz + 1 ≤ BC) (hs : sl + len ≤ BS)
    (kk : ∀ (H1 : Heap), Wd b BC BS S0 s A (Ws ++ [[cB b sz len (fun _ => false)]]) (sz + 1) (sl + len) H1 lo → V p l e R s m args below meth c Q nL H1 lo n L (.ref sz :: st)) : V p l e R s m args below meth c Q nL H lo pc L (.int (nI len) :: st) := by
  obtain ⟨hd, rfl⟩ := hd
  have hK := X.2.2.2.2.2.1.1
  have hts := X.2.2.2.2.1
  refine V_le fun h00 h0 ls hls => ?_
  have a7 := hw.2.2.2.2.2.2.1
  have a8 := hw.2.2.2.2.2.2.2.1
  have r1 := X.2.2.2.2.2.2.1
  have h31 : len < 2 ^ 31 := by omega
  have hcb : componentBytes (newarray.typeOf .boolean) = 1 := rfl
  refine va_newaK (atype := .boolean) (N := len) X.1 X.2.1 (hts _ ha) rfl hd rfl (nI_pos h31) (nI_clamp h31) (by rw [hcb]; omega) (by omega) (by omega) rfl fun H1 cA e1 z1 o1 hAr hNm => ?_
  have hcA : cA = b.2.1 1 := Option.some.inj (hNm.symm.trans (hK.2 1 _ rfl).2)
  subst hcA
  have hsz : szAt H1 H.size = len := by
    unfold szAt
    rw [e1]
    exact arrV_size _ _ _
  refine W_tight (?_ : W p l e R s m args below meth c H1 lo (H1.size - s.heap.size) (slH H1 - slH s.heap) Q (F0 m (pc + 2) ls (.ref H.size :: st)))
  rw [a7]
  refine kk H1 (new_k hw h0 ?_ rfl z1 o1 hsz hc hs) ls hls
  rw [← a7]
  exact e1
theorem r_newL (X : Ctx p R s m args meth c cc nL own b BC BS S0 FR LO) (hw : Wd b BC BS S0 s A Ws sz sl H lo) (ha : Cond.arrayClass .long ∈ tblG) (hd : Dc cc pc (.newarray .long) 2 n) {len : Nat} (hlen : len ≤ 2 ^ 26) (hc : sz + 1 ≤ BC) (hs : sl + len ≤ BS)
    (kk : ∀ (H1 : Heap), Wd b BC BS S0 s A (Ws ++ [[cL b sz len (fun _ => 0)]]) (sz + 1) (sl + len) H1 lo → V p l e R s m args below meth c Q nL H1 lo n L (.ref sz :: st)) : V p l e R s m args below meth c Q nL H lo pc L (.int (nI len) :: st) := by
  obtain ⟨hd, rfl⟩ := hd
  have hK := X.2.2.2.2.2.1.1
  have hts := X.2.2.2.2.1
  refine V_le fun h00 h0 ls hls => ?_
  have a7 := hw.2.2.2.2.2.2.1
  have a8 := hw.2.2.2.2.2.2.2.1
  have r1 := X.2.2.2.2.2.2.1
  have h31 : len < 2 ^ 31 := by omega
  have hcb : componentBytes (newarray.typeOf .long) = 8 := rfl
  refine va_newaK (atype := .long) (N := len) X.1 X.2.1 (hts _ ha) rfl hd rfl (nI_pos h31) (nI_clamp h31) (by rw [hcb]; omega) (by omega) (by omega) rfl fun H1 cA e1 z1 o1 hAr hNm => ?_
  have hcA : cA = b.2.1 2 := Option.some.inj (hNm.symm.trans (hK.2 2 _ rfl).2)
  subst hcA
  have hsz : szAt H1 H.size = len := by
    unfold szAt
    rw [e1]
    exact arrV_size _ _ _
  refine W_tight (?_ : W p l e R s m args below meth c H1 lo (H1.size - s.heap.size) (slH H1 - slH s.heap) Q (F0 m (pc + 2) ls (.ref H.size :: st)))
  rw [a7]
  refine kk H1 (new_k hw h0 ?_ rfl z1 o1 hsz hc hs) ls hls
  rw [← a7]
  exact e1
theorem r_newR (X : Ctx p R s m args meth c cc nL own b BC BS S0 FR LO) (hw : Wd b BC BS S0 s A Ws sz sl H lo) {idx : Nat} {C : String} (t : Nat) (ht : (TY b)[t]? = some (b.2.1 t, .object C)) (hover : va_AO C s) (hl : Cond.classLink own idx C ∈ tblG) (hd : Dc cc pc (.anewarray idx) 3 n) {len : Nat} (hlen : len ≤ 2 ^ 27) (hc : sz + 1 ≤ BC) (hs : sl + len ≤ BS)
    (kk : ∀ (H1 : Heap), Wd b BC BS S0 s A (Ws ++ [[cR b t sz len (fun _ => none)]]) (sz + 1) (sl + len) H1 lo → V p l e R s m args below meth c Q nL H1 lo n L (.ref sz :: st)) : V p l e R s m args below meth c Q nL H lo pc L (.int (nI len) :: st) := by
  obtain ⟨hd, rfl⟩ := hd
  have hK := X.2.2.2.2.2.1.1
  have hts := X.2.2.2.2.1
  refine V_le fun h00 h0 ls hls => ?_
  have a7 := hw.2.2.2.2.2.2.1
  have a8 := hw.2.2.2.2.2.2.2.1
  have r1 := X.2.2.2.2.2.2.1
  have h31 : len < 2 ^ 31 := by omega
  have hcl := nI_clamp h31
  refine W.anew X.1 X.2.1 X.2.2.2.1 (hts _ hl) (va_AO.use hover) rfl hd rfl (nI_pos h31) (by rw [hcl]; omega) (by omega) (by rw [hcl]; omega) fun cA kA comp f1 f2 f3 f4 => ?_
  rw [hcl]
  generalize hH1 : H.push ({ cls := cA, slots := Array.replicate len .null, vm := .none } : Cell) = H1
  have z1 : H1.size = H.size + 1 := by rw [← hH1, Array.size_push]
  have e1 : H1[H.size]? = some (arrV cA len (fun _ => .null)) := by rw [← hH1, Array.getElem?_push_size, ← arrV_new]
  have o1 : ∀ q : Nat, q < H.size → H1[q]? = H[q]? := fun q hq => by rw [← hH1, Array.getElem?_push, if_neg (Nat.ne_of_lt hq)]
  have hcA : cA = b.2.1 t := by
    obtain ⟨kA', comp', -, -, -, g4⟩ := (hK.2 t _ ht).2
    exact Option.some.inj (f1.symm.trans g4)
  subst hcA
  have hsz : szAt H1 H.size = len := by
    unfold szAt
    rw [e1]
    exact arrV_size _ _ _
  refine W_tight (?_ : W p l e R s m args below meth c H1 lo (H1.size - s.heap.size) (slH H1 - slH s.heap) Q (F0 m (pc + 3) ls (.ref H.size :: st)))
  rw [a7]
  refine kk H1 (new_k hw h0 ?_ rfl z1 o1 hsz hc hs) ls hls
  rw [← a7]
  exact e1
end RH
