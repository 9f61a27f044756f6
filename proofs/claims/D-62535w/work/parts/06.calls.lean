/-! ROWS of calls, returns, casts, statics, the library's natives -/
def notMH (C : String) : Prop := C ≠ "java/lang/invoke/MethodHandle" ∧ C ≠ "java/lang/invoke/VarHandle"
def nPar (d : String) (n : Nat) : Prop := (parseMethodDescriptor d).map (fun d => d.parameters.length) = some n
/-- what links a virtual call: class own, entry idx, receiver's class C -/
def MLV (own : String) (idx : Nat) (C : String) (y : MethodName) (cb : ByteArray) (mL : Nat) (rt : Option FieldType) (n : Nat) : Prop :=
  Cond.methodLink own idx y ∈ tblG ∧ Cond.instanceMethod y ∈ tblG ∧ Cond.selects C y y ∈ tblG ∧ Cond.initialized C ∈ tblG ∧ Cond.code y cb mL rt ∈ tblG ∧ y.cls = C ∧ notMH y.cls ∧ nPar y.desc n
def MLS (own : String) (idx : Nat) (y : MethodName) (cb : ByteArray) (mL : Nat) (rt : Option FieldType) (n : Nat) : Prop :=
  Cond.methodLink own idx y ∈ tblG ∧ Cond.static y ∈ tblG ∧ Cond.initialized y.cls ∈ tblG ∧ Cond.code y cb mL rt ∈ tblG ∧ notMH y.cls ∧ nPar y.desc n
def MLI (own : String) (idx : Nat) (y : MethodName) (cb : ByteArray) (mL : Nat) (n : Nat) : Prop :=
  (Cond.methodLink own idx y ∈ tblG ∨ ∃ host, Cond.methodLinkNest own idx y host ∈ nbW) ∧ Cond.instanceMethod y ∈ tblG ∧ Cond.initialized y.cls ∈ tblG ∧ Cond.code y cb mL none ∈ tblG ∧ y.name = "<init>" ∧ notMH y.cls ∧ nPar y.desc n
def MLU (own : String) (idx : Nat) (C owner : String) (x y : MethodName) (cb : ByteArray) (mL : Nat) (rt : Option FieldType) (n : Nat) : Prop :=
  Cond.methodLink own idx x ∈ tblG ∧ Cond.sameMethod x.cls owner x.name x.desc ∈ tblG ∧ Cond.selects C x y ∈ tblG ∧ Cond.instanceMethod y ∈ tblG ∧ Cond.initialized y.cls ∈ tblG ∧ Cond.code y cb mL rt ∈ tblG ∧ notMH owner ∧ nPar x.desc n ∧
  (Cond.declares ⟨owner, x.name, x.desc⟩ ∈ nbW ∨ ∃ (b0 : ByteArray) (m0 : Nat) (r0 : Option FieldType), Cond.instanceMethod ⟨owner, x.name, x.desc⟩ ∈ tblG ∧ Cond.code ⟨owner, x.name, x.desc⟩ b0 m0 r0 ∈ tblG)
theorem good_in {ws : List Cond} (h : ∀ w ∈ ws, w ∈ tblG) : GoodIn tblG ws := fun w hw => ⟨h w hw, tblG_ok w (h w hw)⟩
theorem good_code {y : MethodName} {cb : ByteArray} {mL : Nat} {rt : Option FieldType} (h : Cond.code y cb mL rt ∈ tblG) : ∀ w ∈ (Cond.code y cb mL rt :: tblG), w ∈ tblG := by
  intro w hw
  rcases List.mem_cons.mp hw with rfl | hw
  · exact h
  · exact hw
theorem calling_vm (U : State) (g : JFrame) (mk : MethodId) (a : Array Value) : U.vm = (U.calling g mk a).vm := rfl
section RC
variable {p : Program} {l : Launch} {e : Env} {R : Room} {s : State} {m : MethodId} {args : Array Value} {below : List Frame} {meth : Method} {c : Code} {Q : State → Prop} {cc : ByteArray} {nL : Nat} {own : String} {b : BK} {BC BS S0 FR LO : Nat} {H : Heap} {lo : List Loc} {pc n : Nat} {L L' : List (Nat × Value)} {st st0 st' : List Value} {A : Nat → Prop} {Ws Ws' Wc Wr : List va_W} {w : va_W} {sz sl a : Nat}
theorem Wd.recv (X : Ctx p R s m args meth c cc nL own b BC BS S0 FR LO) (hw : Wd b BC BS S0 s A Ws sz sl H lo) (i j : Nat) {ci : Nat} {fs : List Value} {C : String} {T : u_T} {N : Nat} {ty : Nat → FieldType} (hi : Ws[i]? = some w) (hj : w[j]? = some (a, .inr (ci, fs))) (hc : ClsOK ci C T N ty) : ∃ cellB : Cell, H[a]? = some cellB ∧ cellB.vm.isStatics = false ∧ s.vm.findClass C = some cellB.cls := by
  obtain ⟨q, hq, -⟩ := fl_at hi hj
  exact va_recv X.2.2.2.2.2.1.1 hw.1 hc.1 hq
theorem run_V {S : Type} {post : Option Value → Nat → Nat → S → Prop} {Wp : S → List va_W} (hw : Wd b BC BS S0 s A Ws sz sl H lo) (isC isR : List Nat) {NW : Nat} (hNW : Ws.length = NW) (hperm : (isC ++ isR).isPerm (List.range NW) = true) (hC : pick isC Ws = Wc) (hR : pick isR Ws = Wr)
    (hr : ∀ ls, lv_has ls nL L → va_Run p l e R s m args below meth c H lo (H.size - s.heap.size) (slH H - slH s.heap) (BC - sz) (BS - sl) (F0 m pc ls st0) st (fun st o t => ∃ (r : Option Value) (u : S) (sl' : Nat), o = .returned r ∧ post r t.heap.size sl' u ∧ t.heap.size ≤ BC ∧ sl' ≤ BS ∧ slH t.heap + sl ≤ sl' + slH st.heap ∧ va_P b.1 CL (Wp u).flatten t.heap ∧ va_D (va_A Wc.flatten sz) (Wp u).flatten ∧ va_F (va_A Wc.flatten sz) st t) (va_A Wc.flatten sz))
    (kk : ∀ (r : Option Value) (u : S) (sz' sl' : Nat) (H1 : Heap) (lo1 : List Loc), post r sz' sl' u → Wd b BC BS S0 s A (Wp u ++ Wr) sz' sl' H1 lo1 → V p l e R s m args below meth c Q nL H1 lo1 (pc + 3) L (r.toList ++ st)) : V p l e R s m args below meth c Q nL H lo pc L st0 := by
  have hpm := pick_perm isC isR hNW hperm hC hR
  intro ls hl T hT X0
  obtain ⟨v, st₀, t, T', Lc, h0, X', hL, e1, e2, ⟨r, u, sl', hv, hp, hz1, hs1, hs2, hP1, hD1, hF1, hF2⟩, stp⟩ := hr ls hl T hT X0
  cases hv
  obtain ⟨a1, a2, a3, a4, a5, a6, a7, a8, a9, a10⟩ := hw
  have p1 := a1.perm hpm
  have p2 := a2.perm hpm
  rw [h0] at hF1 hF2 hs2
  have toA : ∀ q : Nat, va_A Wc.flatten sz q → A q := by
    intro q hq
    rcases hq with ⟨k, x, hk⟩ | hq
    · exact p2.memA (x := (q, x)) (List.mem_append_left _ (List.mem_of_getElem? hk))
    · have := a3.1
      exact a4 q (by omega)
  have hnd := p2.nodup
  rw [List.map_append] at hnd
  obtain ⟨nd1, nd2, nd3⟩ := List.nodup_append.mp hnd
  have notR : ∀ x ∈ Wr.flatten, x.1 < H.size ∧ ¬ va_A Wc.flatten sz x.1 := by
    intro x hx
    have hlt := (p1.mem (List.mem_append_right _ hx)).lt
    refine ⟨hlt, fun hq => ?_⟩
    rcases hq with ⟨k, y, hk⟩ | hq
    · exact nd3 x.1 (List.mem_map.mpr ⟨(x.1, y), List.mem_of_getElem? hk, rfl⟩) x.1 (List.mem_map.mpr ⟨x, hx, rfl⟩) rfl
    · omega
  have hw1 : Wd b BC BS S0 s A (Wp u ++ Wr) t.heap.size sl' T'.heap (lo ++ Lc) := by
    refine ⟨?_, ?_, ⟨?_, ?_, ?_⟩, a4, a5, ⟨?_, ?_⟩, by rw [e1], ?_, hz1, hs1⟩
    · rw [List.flatten_append, e1]
      refine va_P.of_mem fun x hx => ?_
      rcases List.mem_append.mp hx with h | h
      · exact hP1.mem h
      · obtain ⟨g1, g2⟩ := notR x h
        exact (p1.mem (List.mem_append_right _ h)).kept (hF2 x.1 g1 g2)
    · rw [List.flatten_append]
      refine va_D.of_nodup ?_ ?_
      · rw [List.map_append, List.nodup_append]
        refine ⟨hD1.nodup, nd2, ?_⟩
        intro u1 hu1 v1 hv1 e3
        obtain ⟨x, hx, rfl⟩ := List.mem_map.mp hu1
        obtain ⟨y, hy, rfl⟩ := List.mem_map.mp hv1
        exact (notR y hy).2 (e3 ▸ hD1.memA hx)
      · intro x hx
        rcases List.mem_append.mp hx with h | h
        · exact toA _ (hD1.memA h)
        · exact p2.memA (List.mem_append_right _ h)
    · rw [e1]
      exact Nat.le_trans a3.1 hF1
    · intro q h1 h2
      rw [e1, hF2 q (Nat.lt_of_lt_of_le h1 a3.1) (fun z => h2 (toA q z))]
      exact a3.2.1 q h1 h2
    · intro q hq
      rcases List.mem_append.mp hq with h | h
      · exact a3.2.2 q h
      · exact toA _ (hL q h)
    · rw [e1]
      exact Nat.le_trans a6.1 hF1
    · intro q hq
      rw [e1, hF2 q (Nat.lt_of_lt_of_le hq a6.1) (fun z => absurd (a5 q (toA q z)) (by omega))]
      exact a6.2 q hq
    · rw [e1]
      omega
  obtain ⟨t2, b1, b2⟩ := (W_tight (kk v u _ sl' T'.heap (lo ++ Lc) hp hw1 ls hl)) T' rfl X'
  exact ⟨t2, stp t2 b1, b2⟩
theorem con_blind {mL : Nat} {av : List Value} : FrameBlind (fun (v : Array Value) (U : State) => v = av.toArray ∧ U.heap.size = sz ∧ sz ≤ BC ∧ sl ≤ BS ∧ Kn b U ∧ PW b Wc U.heap) := by
  intro a0 U g mk h
  obtain ⟨h1, h2, h3, h4, h5, h6⟩ := h
  exact ⟨h1, h2, h3, h4, Kn.same (calling_vm U g mk a0) h5, h6⟩
theorem con_pre (X : Ctx p R s m args meth c cc nL own b BC BS S0 FR LO) (hw : Wd b BC BS S0 s A Ws sz sl H lo) (isC isR : List Nat) {NW : Nat} (hNW : Ws.length = NW) (hperm : (isC ++ isR).isPerm (List.range NW) = true) (hC : pick isC Ws = Wc) (av : List Value) : ∀ U : State, U.heap = H → s.WarmedH U.vm → (av.toArray = av.toArray ∧ U.heap.size = sz ∧ sz ≤ BC ∧ sl ≤ BS ∧ Kn b U ∧ PW b Wc U.heap) := by
  intro U hU hW
  have h := hw.pick isC isR hNW hperm hC
  obtain ⟨a1, a2, a3, a4, a5, a6, a7, a8, a9, a10⟩ := h
  exact ⟨rfl, by rw [hU]; exact a7, a9, a10, Kn.warm hW X.2.2.2.2.2.1, by rw [hU]; exact ⟨a1, a2.weaken (fun _ q _ h => a5 _ h), a6⟩⟩
theorem con_fit (X : Ctx p R s m args meth c cc nL own b BC BS S0 FR LO) (hw : Wd b BC BS S0 s A Ws sz sl H lo) (h0 : slH s.heap ≤ slH H) : H.size - s.heap.size + (BC - sz) ≤ R.cells ∧ slH H - slH s.heap + (BS - sl) ≤ R.slots := by
  obtain ⟨a1, a2, a3, a4, a5, a6, a7, a8, a9, a10⟩ := hw
  have r1 := X.2.2.2.2.2.2.1
  have := a3.1
  constructor <;> omega
theorem r_callV {S : Type} {post : Option Value → Nat → Nat → S → Prop} {Wp : S → List va_W} {y : MethodName} {cb : ByteArray} {mL nA idx fr lc : Nat} {rt : Option FieldType} {C : String} {As : List Value}
    (X : Ctx p R s m args meth c cc nL own b BC BS S0 FR LO) (hw : Wd b BC BS S0 s A Ws sz sl H lo) (M : MLV own idx C y cb mL rt nA) (hM : Con l b y cb mL rt fr lc BC BS sz sl (.ref a :: As) Wc post Wp) (hd : Dc cc pc (.invokevirtual idx) 3 n) (isC isR : List Nat) {NW : Nat} (hNW : Ws.length = NW) (hperm : (isC ++ isR).isPerm (List.range NW) = true) (hC : pick isC Ws = Wc) (hR : pick isR Ws = Wr)
    (hrec : ∃ cellB : Cell, H[a]? = some cellB ∧ cellB.vm.isStatics = false ∧ s.vm.findClass C = some cellB.cls) (hn : As.length = nA) (hst : st0 = As.reverse ++ .ref a :: st) (hcat : (st.map fun v => v.category).sum ≤ 8) (hroom : fr + 1 ≤ FR ∧ 8 + (mL + 11) + lc ≤ LO)
    (kk : ∀ (r : Option Value) (u : S) (sz' sl' : Nat) (H1 : Heap) (lo1 : List Loc), post r sz' sl' u → Wd b BC BS S0 s A (Wp u ++ Wr) sz' sl' H1 lo1 → V p l e R s m args below meth c Q nL H1 lo1 n L (r.toList ++ st)) : V p l e R s m args below meth c Q nL H lo pc L st0 := by
  obtain ⟨hd, rfl⟩ := hd
  obtain ⟨m1, m2, m3, m4, m5, m6, m7, m8⟩ := M
  have hx := X
  obtain ⟨x1, x2, x3, x4, x5, x6, x7, x8, x9⟩ := hx
  refine V_le fun _ h0 => run_V hw isC isR hNW hperm hC hR (fun ls hl => ?_) kk
  have hG : GoodIn tblG (wsV own idx C y (Cond.code y cb mL rt :: tblG)) := good_in fun w hw => by
    unfold wsV at hw
    rcases List.mem_append.mp hw with h | h
    · simp only [List.mem_cons, List.not_mem_nil, or_false] at h
      rcases h with rfl | rfl | rfl | rfl <;> assumption
    · exact good_code m5 w h
  exact va_runV (As := As) (rest := st) ⟨x1, x2, x3, x4, x5⟩ hM (cwV nA x5 hG rfl rfl rfl ⟨m6, m7.1, m7.2, m8⟩ ⟨Nat.le_trans hroom.1 x8.1, Nat.le_trans hroom.2 x8.2⟩) ⟨con_blind (mL := mL), hrec, con_pre X hw isC isR hNW hperm hC _⟩ rfl hn hl.1 hst (lv_room hcat) hd (con_fit X hw h0)
theorem r_callU {S : Type} {post : Option Value → Nat → Nat → S → Prop} {Wp : S → List va_W} {x y : MethodName} {cb : ByteArray} {mL nA idx fr lc : Nat} {rt : Option FieldType} {C owner : String} {As : List Value}
    (X : Ctx p R s m args meth c cc nL own b BC BS S0 FR LO) (hw : Wd b BC BS S0 s A Ws sz sl H lo) (M : MLU own idx C owner x y cb mL rt nA) (hM : Con l b y cb mL rt fr lc BC BS sz sl (.ref a :: As) Wc post Wp) (hd : Dc cc pc (.invokevirtual idx) 3 n) (isC isR : List Nat) {NW : Nat} (hNW : Ws.length = NW) (hperm : (isC ++ isR).isPerm (List.range NW) = true) (hC : pick isC Ws = Wc) (hR : pick isR Ws = Wr)
    (hrec : ∃ cellB : Cell, H[a]? = some cellB ∧ cellB.vm.isStatics = false ∧ s.vm.findClass C = some cellB.cls) (hn : As.length = nA) (hst : st0 = As.reverse ++ .ref a :: st) (hcat : (st.map fun v => v.category).sum ≤ 8) (hroom : fr + 1 ≤ FR ∧ 8 + (mL + 11) + lc ≤ LO)
    (kk : ∀ (r : Option Value) (u : S) (sz' sl' : Nat) (H1 : Heap) (lo1 : List Loc), post r sz' sl' u → Wd b BC BS S0 s A (Wp u ++ Wr) sz' sl' H1 lo1 → V p l e R s m args below meth c Q nL H1 lo1 n L (r.toList ++ st)) : V p l e R s m args below meth c Q nL H lo pc L st0 := by
  obtain ⟨hd, rfl⟩ := hd
  obtain ⟨m1, m2, m3, m4, m5, m6, m7, m8, m9⟩ := M
  have hx := X
  obtain ⟨x1, x2, x3, x4, x5, x6, x7, x8, x9⟩ := hx
  refine V_le fun _ h0 => run_V hw isC isR hNW hperm hC hR (fun ls hl => ?_) kk
  have hG : GoodIn tblG (Cond.code y cb mL rt :: tblG) := good_in (good_code m6)
  have hdecl : va_Decl s ⟨owner, x.name, x.desc⟩ := by
    rcases m9 with h | ⟨b0, m0, r0, h1, h2⟩
    · exact va_Decl.abs (x6.2.1 _ h)
    · exact va_Decl.of (x5 _ h1) (x5 _ h2)
  have cu : va_CU R s args own C owner idx x y cb mL rt (Cond.code y cb mL rt :: tblG) { frames := fr, cells := BC - sz, slots := BS - sl, locals := lc } (BC - sz) (BS - sl) nA :=
    ⟨⟨rfl, rfl, Nat.le_trans hroom.1 x8.1, Nat.le_trans hroom.2 x8.2, pay_in x5 hG, List.mem_cons_self⟩, x5 _ m6, x5 _ m5, m7, fun sig h => by
      have h2 := m8
      unfold nPar at h2
      rw [h] at h2
      exact (Option.some.inj h2).symm, x5 _ m1, x5 _ m2, hdecl, x5 _ m3, x5 _ m4⟩
  exact va_runU (As := As) (rest := st) ⟨x1, x2, x3, x4, x5⟩ hM cu ⟨con_blind (mL := mL), hrec, con_pre X hw isC isR hNW hperm hC _⟩ rfl hn hl.1 hst (lv_room hcat) hd (con_fit X hw h0)
theorem r_callS {S : Type} {post : Option Value → Nat → Nat → S → Prop} {Wp : S → List va_W} {y : MethodName} {cb : ByteArray} {mL nA idx fr lc : Nat} {rt : Option FieldType} {As : List Value}
    (X : Ctx p R s m args meth c cc nL own b BC BS S0 FR LO) (hw : Wd b BC BS S0 s A Ws sz sl H lo) (M : MLS own idx y cb mL rt nA) (hM : Con l b y cb mL rt fr lc BC BS sz sl As Wc post Wp) (hd : Dc cc pc (.invokestatic idx) 3 n) (isC isR : List Nat) {NW : Nat} (hNW : Ws.length = NW) (hperm : (isC ++ isR).isPerm (List.range NW) = true) (hC : pick isC Ws = Wc) (hR : pick isR Ws = Wr)
    (hn : As.length = nA) (hst : st0 = As.reverse ++ st) (hcat : (st.map fun v => v.category).sum ≤ 8) (hroom : fr + 1 ≤ FR ∧ 8 + (mL + 11) + lc ≤ LO)
    (kk : ∀ (r : Option Value) (u : S) (sz' sl' : Nat) (H1 : Heap) (lo1 : List Loc), post r sz' sl' u → Wd b BC BS S0 s A (Wp u ++ Wr) sz' sl' H1 lo1 → V p l e R s m args below meth c Q nL H1 lo1 n L (r.toList ++ st)) : V p l e R s m args below meth c Q nL H lo pc L st0 := by
  obtain ⟨hd, rfl⟩ := hd
  obtain ⟨m1, m2, m3, m5, m7, m8⟩ := M
  have hx := X
  obtain ⟨x1, x2, x3, x4, x5, x6, x7, x8, x9⟩ := hx
  refine V_le fun _ h0 => run_V hw isC isR hNW hperm hC hR (fun ls hl => ?_) kk
  have hG : GoodIn tblG (va_wsS own idx y (Cond.code y cb mL rt :: tblG)) := good_in fun w hw => by
    unfold va_wsS at hw
    rcases List.mem_append.mp hw with h | h
    · simp only [List.mem_cons, List.not_mem_nil, or_false] at h
      rcases h with rfl | rfl | rfl <;> assumption
    · exact good_code m5 w h
  exact va_runS (As := As) (rest := st) ⟨x1, x2, x3, x4, x5⟩ hM (va_cwS nA x5 hG rfl rfl rfl ⟨m7.1, m7.2, m8⟩ ⟨Nat.le_trans hroom.1 x8.1, Nat.le_trans hroom.2 x8.2⟩) ⟨con_blind (mL := mL), con_pre X hw isC isR hNW hperm hC _⟩ rfl hn hl.1 hst (lv_room hcat) hd (con_fit X hw h0)
theorem r_callI {S : Type} {post : Option Value → Nat → Nat → S → Prop} {Wp : S → List va_W} {y : MethodName} {cb : ByteArray} {mL nA idx fr lc : Nat} {As : List Value}
    (X : Ctx p R s m args meth c cc nL own b BC BS S0 FR LO) (hw : Wd b BC BS S0 s A Ws sz sl H lo) (M : MLI own idx y cb mL nA) (hM : Con l b y cb mL none fr lc BC BS sz sl (.ref a :: As) Wc post Wp) (hd : Dc cc pc (.invokespecial idx) 3 n) (isC isR : List Nat) {NW : Nat} (hNW : Ws.length = NW) (hperm : (isC ++ isR).isPerm (List.range NW) = true) (hC : pick isC Ws = Wc) (hR : pick isR Ws = Wr)
    (hn : As.length = nA) (hst : st0 = As.reverse ++ .ref a :: st) (hcat : (st.map fun v => v.category).sum ≤ 8) (hroom : fr + 1 ≤ FR ∧ 8 + (mL + 11) + lc ≤ LO)
    (kk : ∀ (r : Option Value) (u : S) (sz' sl' : Nat) (H1 : Heap) (lo1 : List Loc), post r sz' sl' u → Wd b BC BS S0 s A (Wp u ++ Wr) sz' sl' H1 lo1 → V p l e R s m args below meth c Q nL H1 lo1 n L (r.toList ++ st)) : V p l e R s m args below meth c Q nL H lo pc L st0 := by
  obtain ⟨hd, rfl⟩ := hd
  obtain ⟨m1, m2, m3, m5, m6, m7, m8⟩ := M
  have hx := X
  obtain ⟨x1, x2, x3, x4, x5, x6, x7, x8, x9⟩ := hx
  refine V_le fun _ h0 => run_V hw isC isR hNW hperm hC hR (fun ls hl => ?_) kk
  have hG : GoodIn tblG (Cond.code y cb mL none :: tblG) := good_in (good_code m5)
  rcases m1 with m1 | ⟨host, m1⟩
  · exact va_runI (As := As) (rest := st) ⟨x1, x2, x3, x4, x5⟩ hM (cwI nA x5 hG rfl rfl rfl (x5 _ m3) (x5 _ m1) (x5 _ m2) m6 ⟨m7.1, m7.2, m8⟩ ⟨Nat.le_trans hroom.1 x8.1, Nat.le_trans hroom.2 x8.2⟩) ⟨con_blind (mL := mL), con_pre X hw isC isR hNW hperm hC _⟩ rfl hn hl.1 hst (lv_room hcat) hd (con_fit X hw h0)
  · exact va_runIN (As := As) (rest := st) ⟨x1, x2, x3, x4, x5⟩ hM ⟨va_cnB nA x5 hG rfl rfl rfl (x6.2.1 _ m1) (x5 _ m3) ⟨m7.1, m7.2, m8⟩ ⟨Nat.le_trans hroom.1 x8.1, Nat.le_trans hroom.2 x8.2⟩, m6, x5 _ m2⟩ ⟨con_blind (mL := mL), con_pre X hw isC isR hNW hperm hC _⟩ rfl hn hl.1 hst (lv_room hcat) hd (con_fit X hw h0)
-- returns
theorem r_vret {S : Type} {post : Option Value → Nat → Nat → S → Prop} {Wp : S → List va_W} (RT : RetK p l e R s m args below meth c Q nL cc none b BC BS S0 A post Wp) (hd : Dc cc pc .return_ 1 n) (u : S) (hp : post none sz sl u) (hw : Wd b BC BS S0 s A (Wp u) sz sl H lo) : V p l e R s m args below meth c Q nL H lo pc L [] := RT none u _ _ _ _ _ _ _ _ _ hp hw hd (Or.inl ⟨rfl, rfl, rfl, rfl⟩)
theorem r_iret {S : Type} {post : Option Value → Nat → Nat → S → Prop} {Wp : S → List va_W} {v : Int32} (RT : RetK p l e R s m args below meth c Q nL cc (some .int) b BC BS S0 A post Wp) (hd : Dc cc pc .ireturn 1 n) (u : S) (hp : post (some (.int v)) sz sl u) (hw : Wd b BC BS S0 s A (Wp u) sz sl H lo) : V p l e R s m args below meth c Q nL H lo pc L [.int v] := RT _ u _ _ _ _ _ _ _ _ _ hp hw hd (Or.inr (Or.inl ⟨v, _, rfl, rfl, rfl, rfl, rfl⟩))
theorem nr_bI (x : Bool) : narrow .boolean (.int (bI x)) = .int (bI x) := by cases x <;> rfl
theorem ft_bI (x : Bool) : fits .boolean (.int (bI x)) = true := by cases x <;> rfl
theorem r_zret {S : Type} {post : Option Value → Nat → Nat → S → Prop} {Wp : S → List va_W} {v : Bool} (RT : RetK p l e R s m args below meth c Q nL cc (some .boolean) b BC BS S0 A post Wp) (hd : Dc cc pc .ireturn 1 n) (u : S) (hp : post (some (.int (bI v))) sz sl u) (hw : Wd b BC BS S0 s A (Wp u) sz sl H lo) : V p l e R s m args below meth c Q nL H lo pc L [.int (bI v)] := RT _ u _ _ _ _ _ _ _ _ _ hp hw hd (Or.inr (Or.inl ⟨_, _, rfl, rfl, rfl, rfl, nr_bI v⟩))
theorem r_aret {S : Type} {post : Option Value → Nat → Nat → S → Prop} {Wp : S → List va_W} {v : Value} {ty : FieldType} (RT : RetK p l e R s m args below meth c Q nL cc (some ty) b BC BS S0 A post Wp) (hty : (∃ n, ty = .object n) ∨ ∃ t, ty = .array t) (hv : v = .null ∨ ∃ a, v = .ref a) (hd : Dc cc pc .areturn 1 n) (u : S) (hp : post (some v) sz sl u) (hw : Wd b BC BS S0 s A (Wp u) sz sl H lo) : V p l e R s m args below meth c Q nL H lo pc L [v] := RT _ u _ _ _ _ _ _ _ _ _ hp hw hd (Or.inr (Or.inr ⟨_, _, rfl, rfl, rfl, rfl, hty, hv⟩))
-- Object.<init>
theorem r_objInit (X : Ctx p R s m args meth c cc nL own b BC BS S0 FR LO) {idx : Nat} (M : Cond.methodLink own idx Lib.objectInit ∈ tblG ∧ Cond.instanceMethod Lib.objectInit ∈ tblG ∧ Cond.code Lib.objectInit ⟨#[0xb1]⟩ 1 none ∈ tblG) (hd : Dc cc pc (.invokespecial idx) 3 n) (hcat : (st.map fun v => v.category).sum ≤ 8) (hroom : 1 ≤ FR ∧ 20 ≤ LO) (kk : V p l e R s m args below meth c Q nL H lo n L st) : V p l e R s m args below meth c Q nL H lo pc L (.ref a :: st) := by
  obtain ⟨hd, rfl⟩ := hd
  obtain ⟨x1, x2, x3, x4, x5, x6, x7, x8, x9⟩ := X
  intro ls hl
  refine W.objInit x1 x2 x4 (x5 _ M.1) (x5 _ M.2.1) (x5 _ M.2.2) rfl (by rw [x3]; exact hl.1) rfl hd (Nat.le_trans hroom.1 x8.1) ?_ (kk ls hl)
  have := lv_room (m := m) (pc := pc) (ls := ls) (rest := (.ref a :: st)) hcat
  have h2 := x8.2
  omega
-- null, references
theorem r_ifnonnull (X : Ctx p R s m args meth c cc nL own b BC BS S0 FR LO) {off : Int} {tgt : Nat} (hd : Dc cc pc (.ifnonnull off) 3 n) (ht : (pc : Int) + off = (tgt : Int)) (k : V p l e R s m args below meth c Q nL H lo tgt L st) : V p l e R s m args below meth c Q nL H lo pc L (.ref a :: st) := by
  obtain ⟨hd, rfl⟩ := hd
  exact fun ls hl => lv_ifnonnull X.1 X.2.1 hd ht (k ls hl)
theorem r_ifnull (X : Ctx p R s m args meth c cc nL own b BC BS S0 FR LO) {off : Int} (hd : Dc cc pc (.ifnull off) 3 n) (k : V p l e R s m args below meth c Q nL H lo n L st) : V p l e R s m args below meth c Q nL H lo pc L (.ref a :: st) := by
  obtain ⟨hd, rfl⟩ := hd
  exact fun ls hl => lv_ifnull X.1 X.2.1 hd (k ls hl)
theorem r_ifnullN (X : Ctx p R s m args meth c cc nL own b BC BS S0 FR LO) {off : Int} {tgt : Nat} (hd : Dc cc pc (.ifnull off) 3 n) (ht : (pc : Int) + off = (tgt : Int)) (k : V p l e R s m args below meth c Q nL H lo tgt L st) : V p l e R s m args below meth c Q nL H lo pc L (.null :: st) := by
  obtain ⟨hd, rfl⟩ := hd
  exact fun ls hl => lv_ifnullN X.1 X.2.1 hd ht (k ls hl)
theorem r_ifnonnullN (X : Ctx p R s m args meth c cc nL own b BC BS S0 FR LO) {off : Int} (hd : Dc cc pc (.ifnonnull off) 3 n) (k : V p l e R s m args below meth c Q nL H lo n L st) : V p l e R s m args below meth c Q nL H lo pc L (.null :: st) := by
  obtain ⟨hd, rfl⟩ := hd
  exact fun ls hl => lv_ifnonnullN X.1 X.2.1 hd (k ls hl)
theorem r_acmpne (X : Ctx p R s m args meth c cc nL own b BC BS S0 FR LO) {x y : Nat} {off : Int} {tgt : Nat} {P : Prop} (hP : x = y ↔ P) (hd : Dc cc pc (.if_acmp .ne off) 3 n) (ht : (pc : Int) + off = (tgt : Int)) (k1 : ¬ P → V p l e R s m args below meth c Q nL H lo tgt L st) (k2 : P → V p l e R s m args below meth c Q nL H lo n L st) : V p l e R s m args below meth c Q nL H lo pc L (.ref y :: .ref x :: st) := by
  obtain ⟨hd, rfl⟩ := hd
  exact fun ls hl => lv_acmp_ne (rx := some x) (ry := some y) X.1 X.2.1 hd ht (fun h => k1 (fun z => h (by rw [hP.mpr z])) ls hl) (fun h => k2 (hP.mp (by simpa using h)) ls hl)
theorem r_acmpeq (X : Ctx p R s m args meth c cc nL own b BC BS S0 FR LO) {x y : Nat} {off : Int} {tgt : Nat} {P : Prop} (hP : x = y ↔ P) (hd : Dc cc pc (.if_acmp .eq off) 3 n) (ht : (pc : Int) + off = (tgt : Int)) (k1 : P → V p l e R s m args below meth c Q nL H lo tgt L st) (k2 : ¬ P → V p l e R s m args below meth c Q nL H lo n L st) : V p l e R s m args below meth c Q nL H lo pc L (.ref y :: .ref x :: st) := by
  obtain ⟨hd, rfl⟩ := hd
  exact fun ls hl => lv_acmp_eq (rx := some x) (ry := some y) X.1 X.2.1 hd ht (fun h => k1 (hP.mp (by simpa using h)) ls hl) (fun h => k2 (fun z => h (by rw [hP.mpr z])) ls hl)
theorem r_cast (X : Ctx p R s m args meth c cc nL own b BC BS S0 FR LO) {idx : Nat} {C nm : String} (hl : Cond.classLink own idx nm ∈ tblG) (hc : Cond.castable C nm ∈ nbW) (hrec : ∃ cellB : Cell, H[a]? = some cellB ∧ cellB.vm.isStatics = false ∧ s.vm.findClass C = some cellB.cls) (hd : Dc cc pc (.checkcast idx) 3 n) (kk : V p l e R s m args below meth c Q nL H lo n L (.ref a :: st)) : V p l e R s m args below meth c Q nL H lo pc L (.ref a :: st) := by
  obtain ⟨hd, rfl⟩ := hd
  exact fun ls h => va_castY X.1 X.2.1 X.2.2.2.1 (X.2.2.2.2.1 _ hl) (X.2.2.2.2.2.1.2.1 _ hc) hrec hd (kk ls h)
-- the enum's constants
theorem KnE.recv (X : Ctx p R s m args meth c cc nL own b BC BS S0 FR LO) (hw : Wd b BC BS S0 s A Ws sz sl H lo) {i : Nat} (hi : i < 8) : ∃ cellB : Cell, H[b.2.2.2.2 i]? = some cellB ∧ cellB.vm.isStatics = false ∧ s.vm.findClass "LoopProver$Kind" = some cellB.cls := by
  have hE : KnE b s := X.2.2.2.2.2.1.2.2.2.1
  obtain ⟨-, ⟨cell, h1, h2, h3, h4⟩, -⟩ := hE.1 i hi
  exact ⟨cell, by rw [hw.2.2.2.2.2.1.2 _ (Nat.not_le.mp h4)]; exact h1, h2, h3⟩
theorem r_gets (X : Ctx p R s m args meth c cc nL own b BC BS S0 FR LO) (hw : Wd b BC BS S0 s A Ws sz sl H lo) {idx i : Nat} (hi : i < 8) (hl : Cond.fieldLink own idx "LoopProver$Kind" (kindNames.getD i "") "LLoopProver$Kind;" ∈ tblG) (hd : Dc cc pc (.getstatic idx) 3 n) (kk : V p l e R s m args below meth c Q nL H lo n L (.ref (b.2.2.2.2 i) :: st)) : V p l e R s m args below meth c Q nL H lo pc L st := by
  obtain ⟨hd, rfl⟩ := hd
  have hE : KnE b s := X.2.2.2.2.2.1.2.2.2.1
  obtain ⟨⟨cf, kf, fi, f, a0, cell, h1, h2, h3, h4, h5, h6, h7, h8⟩, -, -⟩ := hE.1 i hi
  exact fun ls h => W.gets X.1 X.2.1 X.2.2.2.1 (X.2.2.2.2.1 _ hl) h1 h2 h3 h4 (by rw [hw.2.2.2.2.2.1.2 _ (Nat.not_le.mp h8)]; exact h5) (fun e => by rw [e] at h6; cases h6) h7 rfl hd (kk ls h)
theorem r_getE (X : Ctx p R s m args meth c cc nL own b BC BS S0 FR LO) (hw : Wd b BC BS S0 s A Ws sz sl H lo) {idx i : Nat} (hi : i < 8) (hl : Cond.fieldLink own idx "java/lang/Enum" "ordinal" "I" ∈ tblG) (hd : Dc cc pc (.getfield idx) 3 n) (kk : V p l e R s m args below meth c Q nL H lo n L (.int (nI i) :: st)) : V p l e R s m args below meth c Q nL H lo pc L (.ref (b.2.2.2.2 i) :: st) := by
  obtain ⟨hd, rfl⟩ := hd
  have hE : KnE b s := X.2.2.2.2.2.1.2.2.2.1
  obtain ⟨-, -, h0⟩ := hE.1 i hi
  obtain ⟨cf, k, fi, f, cell, h1, h2, h3, h4, h5, h6⟩ := h0 _ List.mem_cons_self
  have hv : ([0, 1, 2, 3, 4, 5, 6, 7] : List Int32).getD i 0 = nI i := by
    match i, hi with
    | 0, _ => rfl
    | 1, _ => rfl
    | 2, _ => rfl
    | 3, _ => rfl
    | 4, _ => rfl
    | 5, _ => rfl
    | 6, _ => rfl
    | 7, _ => rfl
    | i + 8, h => exact absurd h (by omega)
  dsimp only at h5
  rw [hv] at h5
  exact fun ls h => W.getf X.1 X.2.1 X.2.2.2.1 (X.2.2.2.2.1 _ hl) h1 h2 (by rw [hw.2.2.2.2.2.1.2 _ (Nat.not_le.mp h6)]; exact h3) h4 h5 rfl rfl hd (kk ls h)
theorem kind_inj (X : Ctx p R s m args meth c cc nL own b BC BS S0 FR LO) {i j : Nat} (hi : i < 8) (hj : j < 8) : b.2.2.2.2 i = b.2.2.2.2 j ↔ i = j := by
  have hE : KnE b s := X.2.2.2.2.2.1.2.2.2.1
  exact ⟨hE.2 i j hi hj, fun h => by rw [h]⟩
-- switches
theorem r_tabOut (X : Ctx p R s m args meth c cc nL own b BC BS S0 FR LO) {dflt lw hg : Int} {offs : Array Int} {len : Nat} {x : Int32} {tgt : Nat} (hd : Dc cc pc (.tableswitch dflt lw hg offs) len n) (h : x.toInt < lw ∨ hg < x.toInt) (ht : (pc : Int) + dflt = (tgt : Int)) (k : V p l e R s m args below meth c Q nL H lo tgt L st) : V p l e R s m args below meth c Q nL H lo pc L (.int x :: st) := by
  obtain ⟨hd, rfl⟩ := hd
  exact fun ls hl => lv_tableOut X.1 X.2.1 hd h ht (k ls hl)
theorem r_tabIn (X : Ctx p R s m args meth c cc nL own b BC BS S0 FR LO) {dflt lw hg : Int} {offs : Array Int} {len : Nat} {x : Int32} {off : Int} {tgt : Nat} (hd : Dc cc pc (.tableswitch dflt lw hg offs) len n) (h1 : ¬ x.toInt < lw) (h2 : ¬ hg < x.toInt) (ho : offs[(x.toInt - lw).toNat]? = some off) (ht : (pc : Int) + off = (tgt : Int)) (k : V p l e R s m args below meth c Q nL H lo tgt L st) : V p l e R s m args below meth c Q nL H lo pc L (.int x :: st) := by
  obtain ⟨hd, rfl⟩ := hd
  exact fun ls hl => lv_tableIn X.1 X.2.1 hd h1 h2 ho ht (k ls hl)
-- longs
theorem r_lconst (X : Ctx p R s m args meth c cc nL own b BC BS S0 FR LO) {i : Fin 2} {v : Int64} (hd : Dc cc pc (.lconst i) 1 n) (hv : Int64.ofNat (i : Nat) = v) (k : V p l e R s m args below meth c Q nL H lo n L (.long v :: st)) : V p l e R s m args below meth c Q nL H lo pc L st := by
  obtain ⟨hd, rfl⟩ := hd
  exact fun ls hl => lv_lconst X.1 X.2.1 hd hv (k ls hl)
theorem r_lor (X : Ctx p R s m args meth c cc nL own b BC BS S0 FR LO) {x y z : Int64} (hd : Dc cc pc .lor 1 n) (hz : x ||| y = z) (k : V p l e R s m args below meth c Q nL H lo n L (.long z :: st)) : V p l e R s m args below meth c Q nL H lo pc L (.long y :: .long x :: st) := by
  obtain ⟨hd, rfl⟩ := hd
  subst hz
  exact fun ls hl => lv_lor X.1 X.2.1 hd (k ls hl)
theorem r_land (X : Ctx p R s m args meth c cc nL own b BC BS S0 FR LO) {x y z : Int64} (hd : Dc cc pc .land 1 n) (hz : x &&& y = z) (k : V p l e R s m args below meth c Q nL H lo n L (.long z :: st)) : V p l e R s m args below meth c Q nL H lo pc L (.long y :: .long x :: st) := by
  obtain ⟨hd, rfl⟩ := hd
  subst hz
  exact fun ls hl => lv_land X.1 X.2.1 hd (k ls hl)
theorem r_lshl (X : Ctx p R s m args meth c cc nL own b BC BS S0 FR LO) {x v : Int64} {y : Int32} (hd : Dc cc pc .lshl 1 n) (hv : x <<< (y.toInt64 &&& 63) = v) (k : V p l e R s m args below meth c Q nL H lo n L (.long v :: st)) : V p l e R s m args below meth c Q nL H lo pc L (.int y :: .long x :: st) := by
  obtain ⟨hd, rfl⟩ := hd
  exact fun ls hl => lv_lshl X.1 X.2.1 hd hv (k ls hl)
theorem r_lshr (X : Ctx p R s m args meth c cc nL own b BC BS S0 FR LO) {x v : Int64} {y : Int32} (hd : Dc cc pc .lshr 1 n) (hv : x >>> (y.toInt64 &&& 63) = v) (k : V p l e R s m args below meth c Q nL H lo n L (.long v :: st)) : V p l e R s m args below meth c Q nL H lo pc L (.int y :: .long x :: st) := by
  obtain ⟨hd, rfl⟩ := hd
  exact fun ls hl => lv_lshr X.1 X.2.1 hd hv (k ls hl)
theorem r_lcmp (X : Ctx p R s m args meth c cc nL own b BC BS S0 FR LO) {x y : Int64} {v : Int32} (hd : Dc cc pc .lcmp 1 n) (hv : lg_cmp x y = v) (k : V p l e R s m args below meth c Q nL H lo n L (.int v :: st)) : V p l e R s m args below meth c Q nL H lo pc L (.long y :: .long x :: st) := by
  obtain ⟨hd, rfl⟩ := hd
  subst hv
  exact fun ls hl => W.lcmp X.1 X.2.1 hd (k ls hl)
-- Math.min, Math.max
theorem r_min (X : Ctx p R s m args meth c cc nL own b BC BS S0 FR LO) (hw : Wd b BC BS S0 s A Ws sz sl H lo) {idx x y : Nat} (M : Cond.methodLink own idx Lib.Math.min.name ∈ tblG ∧ Cond.static Lib.Math.min.name ∈ tblG ∧ Cond.initialized "java/lang/Math" ∈ tblG ∧ Cond.code Lib.Math.min.name Lib.Math.min.code 2 (some .int) ∈ tblG) (hd : Dc cc pc (.invokestatic idx) 3 n) (hcat : (st.map fun v => v.category).sum ≤ 8) (hroom : 1 ≤ FR ∧ 21 ≤ LO) (hx : x < 2 ^ 31) (hy : y < 2 ^ 31) (kk : V p l e R s m args below meth c Q nL H lo n L (.int (nI (min x y)) :: st)) : V p l e R s m args below meth c Q nL H lo pc L (.int (nI y) :: .int (nI x) :: st) := by
  obtain ⟨hd, rfl⟩ := hd
  refine V_le fun _ h0 ls hl => ?_
  have hf := con_fit X hw h0
  have x8 := X.2.2.2.2.2.2.2.1
  have hts := X.2.2.2.2.1
  refine va_mmin X.1 X.2.1 (by rw [X.2.2.1]; exact hl.1.symm) X.2.2.2.1 (hts _ M.1) (hts _ M.2.1) (hts _ M.2.2.1) (hts _ M.2.2.2) (by omega) (by omega) (by omega) (by omega) hd ?_
  have e : (if nI y < nI x then nI y else nI x) = nI (min x y) := by
    by_cases h : y < x
    · rw [if_pos ((nI_ltI hy hx).mpr h), Nat.min_eq_right (by omega)]
    · rw [if_neg (fun z => h ((nI_ltI hy hx).mp z)), Nat.min_eq_left (by omega)]
  rw [e]
  exact kk ls hl
theorem r_max (X : Ctx p R s m args meth c cc nL own b BC BS S0 FR LO) (hw : Wd b BC BS S0 s A Ws sz sl H lo) {idx x y : Nat} (M : Cond.methodLink own idx Lib.Math.max.name ∈ tblG ∧ Cond.static Lib.Math.max.name ∈ tblG ∧ Cond.initialized "java/lang/Math" ∈ tblG ∧ Cond.code Lib.Math.max.name Lib.Math.max.code 2 (some .int) ∈ tblG) (hd : Dc cc pc (.invokestatic idx) 3 n) (hcat : (st.map fun v => v.category).sum ≤ 8) (hroom : 1 ≤ FR ∧ 21 ≤ LO) (hx : x < 2 ^ 31) (hy : y < 2 ^ 31) (kk : V p l e R s m args below meth c Q nL H lo n L (.int (nI (max x y)) :: st)) : V p l e R s m args below meth c Q nL H lo pc L (.int (nI y) :: .int (nI x) :: st) := by
  obtain ⟨hd, rfl⟩ := hd
  refine V_le fun _ h0 ls hl => ?_
  have hf := con_fit X hw h0
  have x8 := X.2.2.2.2.2.2.2.1
  have hts := X.2.2.2.2.1
  refine va_mmax X.1 X.2.1 (by rw [X.2.2.1]; exact hl.1.symm) X.2.2.2.1 (hts _ M.1) (hts _ M.2.1) (hts _ M.2.2.1) (hts _ M.2.2.2) (by omega) (by omega) (by omega) (by omega) hd ?_
  have e : (if nI x < nI y then nI y else nI x) = nI (max x y) := by
    by_cases h : x < y
    · rw [if_pos ((nI_ltI hx hy).mpr h), Nat.max_eq_right (by omega)]
    · rw [if_neg (fun z => h ((nI_ltI hx hy).mp z)), Nat.max_eq_left (by omega)]
  rw [e]
  exact kk ls hl
-- System.arraycopy of ints
theorem cpyN {f g : Nat → Nat} {sp dp k : Nat} : va_cpy (fun j => nI (f j)) (fun j => nI (g j)) sp dp k = fun j => nI (va_cpy f g sp dp k j) := by
  funext j
  simp only [va_cpy]
  split <;> rfl
theorem r_copyN (X : Ctx p R s m args meth c cc nL own b BC BS S0 FR LO) (hw : Wd b BC BS S0 s A Ws sz sl H lo) {idx : Nat} (M : Cond.methodLink own idx arraycopyName ∈ tblG ∧ Cond.native arraycopyName ∈ tblG ∧ Cond.static arraycopyName ∈ tblG ∧ Cond.initialized "java/lang/System" ∈ tblG) (hd : Dc cc pc (.invokestatic idx) 3 n) (i0 j0 i1 j1 : Nat) {w0 w1 : va_W} {a0 n0 n1 sp dp k : Nat} {f g : Nat → Nat} (hi0 : Ws[i0]? = some w0) (hj0 : w0[j0]? = some (cN b a0 n0 f)) (hi1 : Ws[i1]? = some w1) (hj1 : w1[j1]? = some (cN b a n1 g)) (h1 : sp < 2 ^ 31) (h2 : dp < 2 ^ 31) (h3 : k < 2 ^ 31) (h4 : sp + k ≤ n0) (h5 : dp + k ≤ n1) (hcat : (st.map fun v => v.category).sum ≤ 8) (hroom : 1 ≤ FR ∧ 8 + (nativeFrameWords "java/lang/System" "arraycopy" 5 + 11) ≤ LO) (hW : Ws.set i1 (w1.set j1 (cN b a n1 (va_cpy f g sp dp k))) = Ws')
    (kk : ∀ (H1 : Heap) (lo1 : List Loc), Wd b BC BS S0 s A Ws' sz sl H1 lo1 → V p l e R s m args below meth c Q nL H1 lo1 n L st) : V p l e R s m args below meth c Q nL H lo pc L (.int (nI k) :: .int (nI dp) :: .ref a :: .int (nI sp) :: .ref a0 :: st) := by
  obtain ⟨hd, rfl⟩ := hd
  obtain ⟨q0, hq0, -⟩ := fl_at hi0 hj0
  obtain ⟨q, hq, hset⟩ := fl_at hi1 hj1
  have x8 := X.2.2.2.2.2.2.2.1
  have hts := X.2.2.2.2.1
  refine V_le fun _ h0 ls hls => ?_
  subst hW
  have hS : va_S A H H lo := ⟨Nat.le_refl _, fun _ _ _ => rfl, hw.2.2.1.2.2⟩
  have kk2 := put_k hw h0 hls kk
  rw [← hset] at kk2
  refine va_copyi (D := b.1) X.1 X.2.1 (by rw [X.2.2.1]; exact hls.1.symm) X.2.2.2.1 (hts _ M.1) (hts _ M.2.1) (hts _ M.2.2.1) (hts _ M.2.2.2) X.2.2.2.2.2.1.1 hw.1 hw.2.1 hS q0 q 0 0 hq0 hq rfl rfl rfl (nI_pos h1) (nI_pos h2) (nI_pos h3) (by rw [nI_clamp h1, nI_clamp h3]; exact h4) (by rw [nI_clamp h2, nI_clamp h3]; exact h5) (fun _ _ => rfl) (by omega) (by omega) hd ?_
  rw [nI_clamp h1, nI_clamp h2, nI_clamp h3, cpyN]
  exact kk2
end RC
