/-! THE CORE of this proof's own kit: the book of the tables, worlds as lists of chunks, the judgement V (a frame with listed locals), contracts Con -/
def iI (z : Int) : Int32 := Int32.ofInt z
def bI (b : Bool) : Int32 := if b then 1 else 0
/-- the book: class numbers and slots; array classes; the ground's size; the ground; the enum constants' addresses -/
abbrev BK : Type := va_G × (Nat → ClassId) × Nat × Heap × (Nat → Nat)
def TY (b : BK) : List (ClassId × FieldType) := [(b.2.1 0, .int), (b.2.1 1, .boolean), (b.2.1 2, .long), (b.2.1 3, .object "java/lang/Object"), (b.2.1 4, .object "LoopProver$Verdict"), (b.2.1 5, .object "LoopProver$Flow")]
def kindNames : List String := ["ASSIGN", "STORE", "CLAIM", "ASSUME", "WHEN", "OTHER", "LOOP", "END"]
def kindF : List (String × String × String × List Int32) := [("java/lang/Enum", "ordinal", "I", [0, 1, 2, 3, 4, 5, 6, 7])]
def Gnd (b : BK) (H : Heap) : Prop := b.2.2.1 ≤ H.size ∧ ∀ q : Nat, q < b.2.2.1 → H[q]? = b.2.2.2.1[q]?
def KnE (b : BK) (U : State) : Prop := va_En "LoopProver$Kind" "LLoopProver$Kind;" kindNames kindF b.2.2.2.2 (fun q => b.2.2.1 ≤ q) U b.2.2.2.1
def Kn (b : BK) (U : State) : Prop := va_K b.1 CL (TY b) U ∧ (∀ w ∈ nbW, va_Nw w U) ∧ (va_AO "java/lang/Object" U ∧ va_AO "LoopProver$Verdict" U ∧ va_AO "LoopProver$Flow" U) ∧ KnE b U ∧ b.2.2.2.1.size = b.2.2.1
def nbOK : Cond → Bool
  | .fieldLinkNest .. => true
  | .methodLinkNest .. => true
  | .declares _ => true
  | .castable .. => true
  | _ => false
theorem nbW_ok : ∀ w ∈ nbW, nbOK w = true := by decide +kernel
theorem nb_tab {w : Cond} (h : nbOK w = true) : w.onTables = true := by
  cases w <;> first | rfl | (simp [nbOK] at h)
theorem nb_warm {w : Cond} (h : nbOK w = true) {s U : State} (hW : s.WarmedH U.vm) (hZ : va_Nw w s) : va_Nw w U := by
  cases w <;> first | exact va_Nw.warmF hW hZ | exact va_Nw.warmM hW hZ | exact va_Nw.warmD hW hZ | exact va_Nw.warmC hW hZ | (simp [nbOK] at h)
theorem Kn.warm {b : BK} {s U : State} (hW : s.WarmedH U.vm) (h : Kn b s) : Kn b U := by
  obtain ⟨h1, h2, ⟨h3, h4, h5⟩, h6, h7⟩ := h
  exact ⟨va_K.moved hW.alike h1, fun w hw => nb_warm (nbW_ok w hw) hW (h2 w hw), ⟨va_AO.moved hW.alike h3, va_AO.moved hW.alike h4, va_AO.moved hW.alike h5⟩, va_En.moved hW.alike h6, h7⟩
theorem Kn.same {b : BK} {s U : State} (e : s.vm = U.vm) (h : Kn b s) : Kn b U := Kn.warm (by rw [← e]; exact State.WarmedH.refl s) h
-- slots of a heap
def slT (f : Nat → Nat) : Nat → Nat
  | 0 => 0
  | n + 1 => slT f n + f n
def szAt (H : Heap) (i : Nat) : Nat := match H[i]? with
  | some c => c.slots.size
  | none => 0
def slH (H : Heap) : Nat := slT (szAt H) H.size
theorem slT_congr {f g : Nat → Nat} : ∀ n : Nat, (∀ i, i < n → f i = g i) → slT f n = slT g n
  | 0, _ => rfl
  | n + 1, h => by
    show slT f n + f n = slT g n + g n
    rw [slT_congr n (fun i hi => h i (by omega)), h n (by omega)]
theorem slT_mono (f : Nat → Nat) : ∀ {n k : Nat}, n ≤ k → slT f n ≤ slT f k := by
  intro n k h
  induction h with
  | refl => exact Nat.le_refl _
  | step _ ih => exact Nat.le_trans ih (Nat.le_add_right _ _)
theorem slH_same {H H1 : Heap} (hz : H1.size = H.size) (h : ∀ i, i < H.size → szAt H1 i = szAt H i) : slH H1 = slH H := by
  unfold slH
  rw [hz]
  exact slT_congr _ h
theorem slH_push {H H1 : Heap} {n : Nat} (hz : H1.size = H.size + 1) (h : ∀ i, i < H.size → H1[i]? = H[i]?) (hn : szAt H1 H.size = n) : slH H1 = slH H + n := by
  unfold slH
  rw [hz]
  show slT (szAt H1) H.size + szAt H1 H.size = _
  rw [hn, slT_congr (f := szAt H1) (g := szAt H) H.size (fun i hi => by unfold szAt; rw [h i hi])]
theorem sl_drop (H : Heap) (k : Nat) (hk : k ≤ H.size) : ((H.toList.drop k).map (·.slots.size)).sum + slT (szAt H) k = slH H := by
  obtain ⟨d, hd⟩ : ∃ d, H.size = k + d := ⟨H.size - k, by omega⟩
  induction d generalizing k with
  | zero =>
    have e : k = H.size := by omega
    subst e
    have : H.toList.drop H.size = [] := by rw [List.drop_eq_nil_iff]; simp
    rw [this]
    simp [slH]
  | succ d ih =>
    have hlt : k < H.toList.length := by rw [Array.length_toList]; omega
    rw [List.drop_eq_getElem_cons hlt, List.map_cons, List.sum_cons]
    have h1 := ih (k + 1) (by omega) (by omega)
    have h2 : slT (szAt H) (k + 1) = slT (szAt H) k + szAt H k := rfl
    have h3 : szAt H k = (H.toList[k]).slots.size := by
      unfold szAt
      have : H[k]? = some H.toList[k] := by
        rw [← Array.getElem?_toList, List.getElem?_eq_getElem hlt]
      rw [this]
    omega
section TI
variable {p : Program} {l : Launch} {e : Env} {R : Room} {s : State} {m : MethodId} {args : Array Value} {below : List Frame} {meth : Method} {c : Code} {H : Heap} {locs : List Loc} {cells slots : Nat} {Q : State → Prop}
/-- the new cells and slots are what the heap says: the indices of W don't matter -/
theorem W_tight {g : JFrame} (k : W p l e R s m args below meth c H locs (H.size - s.heap.size) (slH H - slH s.heap) Q g) : W p l e R s m args below meth c H locs cells slots Q g := by
  intro T hT X
  refine k T hT { X with same := ?_ }
  obtain ⟨h0, h1, h2, h3, h4, h5⟩ := X.same
  have hh : (T.setVm s.vm).heap = H := hT
  rw [hh] at h1 h2 h3 h4 h5
  refine ⟨h0, by rw [hh]; exact h1, by rw [hh]; omega, by rw [hh]; exact h3, ?_, by rw [hh]; exact h5⟩
  rw [hh]
  have e1 := sl_drop H s.heap.size h1
  have e2 : slT (szAt H) s.heap.size = slH s.heap := by
    unfold slH
    refine slT_congr _ (fun i hi => ?_)
    obtain ⟨c0, hc0⟩ : ∃ c0, s.heap[i]? = some c0 := ⟨_, Array.getElem?_eq_getElem hi⟩
    obtain ⟨c1, g1, -, g3, -⟩ := h5 i c0 hc0
    unfold szAt
    rw [g1, hc0]
    exact g3
  omega
end TI
-- decoded instructions: place, instruction, length, next place
abbrev DT : Type := List (Nat × Instr × Nat × Nat)
def Dc (cc : ByteArray) (pc : Nat) (ins : Instr) (len n : Nat) : Prop := decode cc pc = .ok (ins, len) ∧ pc + len = n
def dchk (cc : ByteArray) (T : DT) : Bool := T.all (fun q => decide (decode cc q.1 = .ok (q.2.1, q.2.2.1)) && (q.1 + q.2.2.1 == q.2.2.2))
def Dec (cc : ByteArray) (T : DT) : Prop := ∀ q ∈ T, Dc cc q.1 q.2.1 q.2.2.1 q.2.2.2
theorem Dec.of {cc : ByteArray} {T : DT} (h : dchk cc T = true) : Dec cc T := by
  intro q hq
  have h1 := List.all_eq_true.mp h q hq
  simp only [Bool.and_eq_true, decide_eq_true_eq, beq_iff_eq] at h1
  exact h1
theorem dat {cc : ByteArray} {T : DT} (D : Dec cc T) (k : Nat) {pc : Nat} {ins : Instr} {len n : Nat} (h : T[k]? = some (pc, ins, len, n)) : Dc cc pc ins len n := D (pc, ins, len, n) (List.mem_of_getElem? h)
section TB
variable {p : Program} {l : Launch} {e : Env} {R : Room} {s : State} {m : MethodId} {args : Array Value} {below : List Frame} {meth : Method} {c : Code} {H : Heap} {locs : List Loc} {cells slots : Nat} {Q : State → Prop}
/-- what W's indices say of the heap -/
theorem W_bound {g : JFrame} (k : s.heap.size ≤ H.size → slH s.heap ≤ slH H → H.size ≤ s.heap.size + cells → slH H ≤ slH s.heap + slots → W p l e R s m args below meth c H locs (H.size - s.heap.size) (slH H - slH s.heap) Q g) : W p l e R s m args below meth c H locs cells slots Q g := by
  intro T hT X
  obtain ⟨h0, h1, h2, h3, h4, h5⟩ := X.same
  have hh : (T.setVm s.vm).heap = H := hT
  rw [hh] at h1 h2 h3 h4 h5
  have e1 := sl_drop H s.heap.size h1
  have e2 : slT (szAt H) s.heap.size = slH s.heap := by
    unfold slH
    refine slT_congr _ (fun i hi => ?_)
    obtain ⟨c0, hc0⟩ : ∃ c0, s.heap[i]? = some c0 := ⟨_, Array.getElem?_eq_getElem hi⟩
    obtain ⟨c1, g1, -, g3, -⟩ := h5 i c0 hc0
    unfold szAt
    rw [g1, hc0]
    exact g3
  exact W_tight (k h1 (by omega) h2 (by omega)) T hT X
end TB
-- worlds: b the book; BC, BS the bounds; S0 the count of slots at the start; sz cells; sl bounds the count of slots
def Wd (b : BK) (BC BS S0 : Nat) (s : State) (A : Nat → Prop) (Ws : List va_W) (sz sl : Nat) (H : Heap) (lo : List Loc) : Prop :=
  va_P b.1 CL Ws.flatten H ∧ va_D A Ws.flatten ∧ va_S A s.heap H lo ∧ (∀ q : Nat, s.heap.size ≤ q → A q) ∧ (∀ q : Nat, A q → b.2.2.1 ≤ q) ∧ Gnd b H ∧ H.size = sz ∧ slH H + S0 ≤ sl + slH s.heap ∧ sz ≤ BC ∧ sl ≤ BS
def PW (b : BK) (Ws : List va_W) (H : Heap) : Prop := va_P b.1 CL Ws.flatten H ∧ va_D (fun q => b.2.2.1 ≤ q) Ws.flatten ∧ Gnd b H
def Ctx (p : Program) (R : Room) (s : State) (m : MethodId) (args : Array Value) (meth : Method) (c : Code) (cc : ByteArray) (nL : Nat) (own : String) (b : BK) (BC BS S0 FR LO : Nat) : Prop :=
  p.tables.exec = Jvm.exec ∧ c.code = cc ∧ c.maxLocals = nL ∧ s.vm.findClass own = some m.cls ∧ (∀ w ∈ tblG, w.before args s = true) ∧ Kn b s ∧ (R.cells + s.heap.size = BC ∧ R.slots + S0 = BS) ∧ (FR ≤ R.frames ∧ LO ≤ R.locals) ∧ meth.locks = false
def V (p : Program) (l : Launch) (e : Env) (R : Room) (s : State) (m : MethodId) (args : Array Value) (below : List Frame) (meth : Method) (c : Code) (Q : State → Prop) (nL : Nat) (H : Heap) (lo : List Loc) (pc : Nat) (L : List (Nat × Value)) (st : List Value) : Prop :=
  ∀ ls : Array Slot, lv_has ls nL L → W p l e R s m args below meth c H lo (H.size - s.heap.size) (slH H - slH s.heap) Q (F0 m pc ls st)
/-- a contract: from any heap of sz cells with the world Ws, the count of slots at sl: it returns r with post, the world is Wp; nothing else changed; BC, BS bound cells and slots throughout -/
def Con (l : Launch) (b : BK) (y : MethodName) (cb : ByteArray) (mL : Nat) (rt : Option FieldType) (fr lc BC BS sz sl : Nat) (av : List Value) (Ws : List va_W) {S : Type} (post : Option Value → Nat → Nat → S → Prop) (Wp : S → List va_W) : Prop :=
  Met l y (Cond.code y cb mL rt :: tblG) { frames := fr, cells := BC - sz, slots := BS - sl, locals := lc }
    (fun v U => v = av.toArray ∧ U.heap.size = sz ∧ sz ≤ BC ∧ sl ≤ BS ∧ Kn b U ∧ PW b Ws U.heap)
    (fun _ st o t => ∃ (r : Option Value) (u : S) (sl' : Nat), o = .returned r ∧ post r t.heap.size sl' u ∧ t.heap.size ≤ BC ∧ sl' ≤ BS ∧ slH t.heap + sl ≤ sl' + slH st.heap ∧ va_P b.1 CL (Wp u).flatten t.heap ∧ va_D (va_A Ws.flatten sz) (Wp u).flatten ∧ va_F (va_A Ws.flatten sz) st t)
    (BC - sz) (BS - sl) (va_A Ws.flatten sz)
/-- which instruction gives which answer -/
def retI (ins : Instr) (r : Option Value) (st : List Value) (rt : Option FieldType) : Prop :=
  (ins = .return_ ∧ r = none ∧ st = [] ∧ rt = none) ∨ (∃ (v : Int32) (ty : FieldType), ins = .ireturn ∧ r = some (.int v) ∧ st = [.int v] ∧ rt = some ty ∧ narrow ty (.int v) = .int v) ∨
  (∃ (v : Value) (ty : FieldType), ins = .areturn ∧ r = some v ∧ st = [v] ∧ rt = some ty ∧ ((∃ n, ty = .object n) ∨ ∃ t, ty = .array t) ∧ (v = .null ∨ ∃ a, v = .ref a))
def RetK (p : Program) (l : Launch) (e : Env) (R : Room) (s : State) (m : MethodId) (args : Array Value) (below : List Frame) (meth : Method) (c : Code) (Q : State → Prop) (nL : Nat) (cc : ByteArray) (rt : Option FieldType) (b : BK) (BC BS S0 : Nat) (A : Nat → Prop) {S : Type} (post : Option Value → Nat → Nat → S → Prop) (Wp : S → List va_W) : Prop :=
  ∀ (r : Option Value) (u : S) (sz sl : Nat) (H : Heap) (lo : List Loc) (pc : Nat) (L : List (Nat × Value)) (st : List Value) (ins : Instr) (n : Nat), post r sz sl u → Wd b BC BS S0 s A (Wp u) sz sl H lo → Dc cc pc ins 1 n → retI ins r st rt → V p l e R s m args below meth c Q nL H lo pc L st
theorem con_of {l : Launch} {b : BK} {y : MethodName} {cb : ByteArray} {mL : Nat} {rt : Option FieldType} {fr lc BC BS sz sl : Nat} {av : List Value} {Ws : List va_W} {S : Type} {post : Option Value → Nat → Nat → S → Prop} {Wp : S → List va_W} {L0 : List (Nat × Value)}
    (hy : plainName y.cls = true) (hn : (lg_sl av).length ≤ mL) (hL : lv_args 0 av = L0)
    (body : ∀ (p : Program) (e : Env) (R : Room) (s : State) (m : MethodId) (args : Array Value) (below : List Frame) (meth : Method) (c : Code) (Q : State → Prop) (A : Nat → Prop) (H : Heap) (lo : List Loc), Ctx p R s m args meth c cb mL y.cls b BC BS sl fr lc → (y.name = "<init>" → meth.name = "<init>") → Wd b BC BS sl s A Ws sz sl H lo → RetK p l e R s m args below meth c Q mL cb rt b BC BS sl A post Wp → V p l e R s m args below meth c Q mL H lo 0 L0 []) :
    Con l b y cb mL rt fr lc BC BS sz sl av Ws post Wp := by
  refine Met.ofW (cc := cb) (maxL := mL) (ret := rt) hy rfl ?_
  intro p e s m args below meth c s₁ B hml hv
  obtain ⟨rfl, hsz, h1, h2, hK, hP, hD, hG⟩ := hv
  have hts := atoms_spec (ws := Cond.code y cb mL rt :: tblG) B.pre
  have hr := B.returns
  have hx := B.exec
  have hb := B.bytes
  have hlocks := B.notSynchronized
  subst hL
  rw [lg_entry_eq]
  refine W_tight (body p e _ s m _ below meth c _ (va_A Ws.flatten sz) s.heap [] ⟨hx, hb, hml, findClass_of_methodNamed B.named, fun w hw => hts w (List.mem_cons_of_mem _ hw), hK, ⟨?_, ?_⟩, ⟨Nat.le_refl _, Nat.le_refl _⟩, hlocks⟩ (fun h => ((name_of_methodNamed B.named B.method).1).trans h) ⟨hP, hD.self, va_S.rf, ?_, ?_, hG, hsz, by omega, h1, h2⟩ ?_ _ (lv_entry av hn))
  · show BC - sz + s.heap.size = BC
    omega
  · show BS - sl + sl = BS
    omega
  · intro q hq
    exact Or.inr (by omega)
  · intro q hq
    rcases hq with ⟨k, x, hk⟩ | hq
    · exact hD.2 k _ hk
    · have := hG.1
      omega
  · intro r u sz' sl' H lo pc L st ins n hp hw hd hI ls hl
    obtain ⟨w1, w2, w3, w4, w5, w6, w7, w8, w9, w10⟩ := hw
    have hq : ∀ t : State, t.heap = H → ∃ (r' : Option Value) (u : S) (sl' : Nat), (Outcome.returned r : Outcome) = .returned r' ∧ post r' t.heap.size sl' u ∧ t.heap.size ≤ BC ∧ sl' ≤ BS ∧ slH t.heap + sl ≤ sl' + slH s.heap ∧ va_P b.1 CL (Wp u).flatten t.heap ∧ va_D (va_A Ws.flatten sz) (Wp u).flatten ∧ va_F (va_A Ws.flatten sz) s t := by
      intro t ht
      subst ht
      exact ⟨r, u, sl', rfl, by rw [w7]; exact hp, by rw [w7]; exact w9, w10, w8, w1, w2, w3.F rfl⟩
    have hc1 : H.size - s.heap.size ≤ BC - sz := by omega
    have hc2 : slH H - slH s.heap ≤ BS - sl := by omega
    rcases hI with ⟨rfl, rfl, rfl, rfl⟩ | ⟨v, ty, rfl, rfl, rfl, rfl, hnar⟩ | ⟨v, ty, rfl, rfl, rfl, rfl, hty, hv⟩
    · refine W.widen hc1 hc2 (W.vret hx hb hr (fun t ht _ => hq t ht) (fun q hq => w3.2.2 q hq) hd.1)
    · refine W.widen hc1 hc2 (W.zret hx hb hr hnar (fun t ht _ => hq t ht) (fun q hq => w3.2.2 q hq) hd.1)
    · refine W.widen hc1 hc2 (W.aret hx hb hr hty hv (fun t ht _ => hq t ht) (fun q hq => w3.2.2 q hq) hd.1)
