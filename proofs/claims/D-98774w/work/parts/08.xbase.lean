/-! CONTRACTS THAT RETURN OR THROW -/
def mox {α β γ : Type} (x : Option (α ⊕ β)) (X : α → Option γ) (K : β → Option γ) : Option γ := match x with
  | none => none
  | some (.inl a) => X a
  | some (.inr b) => K b
theorem mox_s {α β γ : Type} {x : Option (α ⊕ β)} {X : α → Option γ} {K : β → Option γ} {o : Option γ} {v : γ} (ho : o = some v) (h : mox x X K = o) : ∃ a, x = some a ∧ mox (some a) X K = o := by
  cases x with
  | none => rw [ho] at h; exact nomatch h
  | some a => exact ⟨a, rfl, h⟩
theorem moxr {α β γ : Type} {X : α → Option γ} {K : β → Option γ} {o : Option γ} {b : β} (h : mox (some (.inr b)) X K = o) : K b = o := h
theorem moxl {α β γ : Type} {X : α → Option γ} {K : β → Option γ} {o : Option γ} {b : α} (h : mox (some (.inl b)) X K = o) : X b = o := h
def QXr (PX : String → va_W → Prop) (D : va_G) (cl : List vw_C) (A : Nat → Prop) : String → State → State → Prop := fun E st t => ∃ ws' : va_W, PX E ws' ∧ va_P D cl ws' t.heap ∧ va_D A ws' ∧ va_F A st t
/-- changes its cells ws, and returns (P) or throws (PX) -/
def CtX (l : Launch) (y : MethodName) (cc : ByteArray) (mL : Nat) (ret : Option FieldType) (rm : Room) (Z : zZ) (D : va_G) (cl : List vw_C) (ws : va_W) (av : List Value) (P : Option Value → va_W → Prop) (PX : String → va_W → Prop) (mc ms : Nat) : Prop :=
  ∀ sz : Nat, vx_Met l y (ws_ y cc mL ret) rm (PcW Z D cl ws av sz) (QWr P D cl (va_A ws sz)) (QXr PX D cl (va_A ws sz)) mc ms (va_A ws sz)
theorem CtX.of {l : Launch} {y : MethodName} {cc : ByteArray} {mL : Nat} {ret : Option FieldType} {rm : Room} {Z : zZ} {D : va_G} {cl : List vw_C} {ws : va_W} {av : List Value} {P : Option Value → va_W → Prop} {PX : String → va_W → Prop} {mc ms : Nat} (hy : plainName y.cls = true) (hlen : (lg_sl av).length ≤ mL)
    (body : ∀ (p : Program) (e : Env) (s : State) (m : MethodId) (args : Array Value) (below : List Frame) (meth : Method) (c : Code) (A : Nat → Prop), zE p s m args meth c y cc mL ret → (∀ x ∈ c.exceptionTable.toList, False) → (∀ q : Nat, s.heap.size ≤ q → A q) → va_P D cl ws s.heap → va_D A ws → va_S A s.heap s.heap [] → Z A s s.heap → ∀ ls : Array Slot, lv_has ls mL (lv_args 0 av) →
      W p l e rm s m args below meth c s.heap [] 0 0 (vx_MQ below (QWr P D cl A) (QXr PX D cl A) args s mc ms A) (F0 m 0 ls [])) : CtX l y cc mL ret rm Z D cl ws av P PX mc ms := by
  intro sz
  refine vx_ofW (cc := cc) (maxL := mL) (ret := ret) hy rfl ?_
  intro p e s m args below meth c s₁ B hml hnoh hv
  obtain ⟨rfl, hsz, hP, hz, hD⟩ := hv
  subst hsz
  have hts := atoms_spec (ws := ws_ y cc mL ret) B.pre
  rw [lg_entry_eq]
  exact body p e s m _ below meth c (va_A ws s.heap.size) ⟨B.exec, B.bytes, B.returns, hml, findClass_of_methodNamed B.named, fun w h => hts w (List.mem_cons_of_mem _ h), B.notSynchronized, (name_of_methodNamed B.named B.method).1⟩ hnoh (fun q h => Or.inr h) hP hD.self va_S.rf hz _ (lv_entry av hlen)
/-- the words of a throw, by their places -/
theorem zat {L : List Cond} {args : Array Value} {s : State} (hts : ∀ w ∈ lw_all, w.before args s = true) (hN : ∀ w ∈ zN, va_Nw w s) (p1 p2 : List Nat) (h1 : L.filter goodWord = p1.filterMap (fun i => lw_tbl[i]?)) (h2 : L.filter (fun w => !goodWord w) = p2.filterMap (fun i => lw_tbl[i]?)) (h3 : (L.filter (fun w => !goodWord w)).all zNk = true) : ∀ w ∈ L, w.before args s = true := by
  intro w hw
  by_cases g : goodWord w = true
  · have hm : w ∈ L.filter goodWord := List.mem_filter.mpr ⟨hw, g⟩
    rw [h1] at hm
    obtain ⟨i, -, hi⟩ := List.mem_filterMap.mp hm
    exact hts w (lw_g (List.mem_of_getElem? hi) g)
  · have g' : (!goodWord w) = true := by
      cases hgw : goodWord w
      · rfl
      · exact absurd hgw g
    have hm : w ∈ L.filter (fun w => !goodWord w) := List.mem_filter.mpr ⟨hw, g'⟩
    have hk := List.all_eq_true.mp h3 w hm
    rw [h2] at hm
    obtain ⟨i, -, hi⟩ := List.mem_filterMap.mp hm
    have hn := hN w (zN_of (List.mem_of_getElem? hi) hk)
    cases w <;> first | exact va_Nw.use rfl hn | exact nomatch hk
def zTh (Z : zZ) : Prop := ∀ A U H, Z A U H → vx_Zq Bundle.tN "UNASSIGNED_STACK" Bundle.steD A U H ∧ vx_Zq Bundle.tN "SUPPRESSED_SENTINEL" Bundle.listD A U H
section ZX
variable {p : Program} {l : Launch} {e : Env} {R : Room} {s : State} {m : MethodId} {args : Array Value} {below : List Frame} {meth : Method} {c : Code} {H : Heap} {locs : List Loc} {cells slots : Nat} {Q : State → Prop}
variable {pc : Nat} {ls : Array Slot} {rest st0 : List Value} {D : va_G} {cl : List vw_C} {tys : List (ClassId × FieldType)} {Z : zZ} {A : Nat → Prop} {ws pre post : va_W} {P : Option Value → va_W → Prop} {PX : String → va_W → Prop} {mc ms : Nat} {cc : ByteArray}
/-- new X(); athrow: it leaves the method -/
theorem zthrow {own cls : String} {names : List String} {ik ic : Nat} (hx : p.tables.exec = Jvm.exec) (hb : c.code = cc) (hlt : l.stackTraces = false) (hown : s.vm.findClass own = some m.cls) (hcls : Bundle.fit cls = true) (hnames : ∀ n ∈ names, Bundle.fit n = true)
    (hk : (Cond.classLink own ik cls).before args s = true) (hini : (Cond.initialized cls).before args s = true) (hat : ∀ w ∈ vx_at0 own ic cls names, w.before args s = true)
    (hgood : ∀ w ∈ Cond.classLink own ik cls :: Cond.initialized cls :: vx_at0 own ic cls names, vx_ot w = true) (hT : zTh Z) (hz : Z A s s.heap) (hlocks : meth.locks = false) (hP : va_P D cl ws H) (hD : va_D A ws) (hS : va_S A s.heap H locs) (hA : ∀ q : Nat, s.heap.size ≤ q → A q) (hsize : ls.size = c.maxLocals)
    (hp : PX cls ws) (d0 : decode cc pc = .ok (.new ik, 3)) (d3 : decode cc (pc + 3) = .ok (.dup, 1)) (d4 : decode cc (pc + 4) = .ok (.invokespecial ic, 3)) (d7 : decode cc (pc + 7) = .ok (.athrow, 1)) (hnoh : ∀ x ∈ c.exceptionTable.toList, False)
    (hRframes : names.length + 3 < R.frames) (hRlocals : (rest.map fun v => v.category).sum + (13 * (names.length + 1) + 42) ≤ R.locals) (hRcells : cells + 1 ≤ R.cells) (hRslots : slots + 6 ≤ R.slots) (hc : cells + 1 ≤ mc) (hs : slots + 6 ≤ ms) :
    W p l e R s m args below meth c H locs cells slots (vx_MQ below (QWr P D cl A) (QXr PX D cl A) args s mc ms A) (F0 m pc ls rest) :=
  vx_throw0 hx hb hlt hown hcls hnames hk hini hat hgood (hT _ _ _ hz).1 (hT _ _ _ hz).2 hS hsize d0 d3 d4 d7 (fun x h => (hnoh x h).elim) hRframes hRlocals hRcells hRslots hlocks
    (fun t _ h1 h2 => ⟨ws, hp, hP.kept (fun k q h => h2 q.1 (hP k q h).lt), hD, ⟨Nat.le_trans hS.1 h1, fun q g1 g2 => (h2 q (Nat.lt_of_lt_of_le g1 hS.1)).trans (hS.2.1 q g1 g2)⟩⟩) hS.2.2 hc hs
theorem cl_X {a : Array Value} (hr : vx_Run p l e R s m args below meth c H locs cells slots mc ms (F0 m pc ls st0) rest (QWr P D cl (va_A ws H.size) a) (QXr PX D cl (va_A ws H.size)) (va_A ws H.size)) (hP : va_P D cl (pre ++ (ws ++ post)) H) (hD : va_D A (pre ++ (ws ++ post))) (hS : va_S A s.heap H locs) (hA : ∀ q : Nat, s.heap.size ≤ q → A q)
    (kx : ∀ (E : String) (ws' : va_W) (ce : Cell) (q9 : Addr) (H1 : Heap) (locs1 : List Loc), PX E ws' → va_P D cl (pre ++ (ws' ++ post)) H1 → va_D A (pre ++ (ws' ++ post)) → va_S A s.heap H1 locs1 → H1[q9]? = some ce → ce.vm = .none → s.vm.findClass E = some ce.cls → vx_W p l e R s m args below meth c H1 locs1 (cells + mc) (slots + ms) Q (F0 m pc ls rest) q9)
    (kk : ∀ (r : Option Value) (ws' : va_W) (H1 : Heap) (locs1 : List Loc), P r ws' → va_P D cl (pre ++ (ws' ++ post)) H1 → va_D A (pre ++ (ws' ++ post)) → va_S A s.heap H1 locs1 → W p l e R s m args below meth c H1 locs1 (cells + mc) (slots + ms) Q (F0 m (pc + 3) ls (r.toList ++ rest))) : W p l e R s m args below meth c H locs cells slots Q (F0 m pc ls st0) := by
  have hF : ∀ q, va_A ws H.size q → A q := zfree hD hS hA
  intro T hT X
  have hS1 : ∀ (t : State) (L : List Loc), (∀ q ∈ L, va_A ws H.size q.base) → H.size ≤ t.heap.size → (∀ q : Nat, q < H.size → ¬ va_A ws H.size q → t.heap[q]? = H[q]?) → va_S A s.heap t.heap (locs ++ L) := fun t L hL hz hk =>
    ⟨Nat.le_trans hS.1 hz, fun q h1 h2 => by rw [hk q (Nat.lt_of_lt_of_le h1 hS.1) (fun z => h2 (hF q z))]; exact hS.2.1 q h1 h2, fun q hq => by
      rcases List.mem_append.mp hq with h | h
      · exact hS.2.2 q h
      · exact hF _ (hL q h)⟩
  rcases hr T hT X with ⟨v, st₀, t, T', L, h0, X', hL, e1, e2, ⟨⟨r, ws', hv, hp, hP1, hD1⟩, hz, hk⟩, st⟩ | ⟨q, st₀, t, T', L, E, ce, h0, X', hL, e1, e2, ⟨ws', hp, hP1, hD1, hz, hk⟩, hce, hcv, hcl, st⟩
  · cases hv
    rw [h0] at hz hk
    obtain ⟨hP2, hD2⟩ := zjoin hP hD hF hk hP1 hD1
    obtain ⟨t2, a1, b1⟩ := kk v ws' T'.heap (locs ++ L) hp (by rw [e1]; exact hP2) hD2 (by rw [e1]; exact hS1 t L hL hz hk) T' rfl X'
    exact ⟨t2, st t2 a1, b1⟩
  · rw [h0] at hz hk
    obtain ⟨hP2, hD2⟩ := zjoin hP hD hF hk hP1 hD1
    obtain ⟨t2, a1, b1⟩ := kx E ws' ce q T'.heap (locs ++ L) hp (by rw [e1]; exact hP2) hD2 (by rw [e1]; exact hS1 t L hL hz hk) (by rw [e1]; exact hce) hcv hcl T' rfl X'
    exact ⟨t2, st.trans a1, b1⟩
/-- what a callee threw leaves this method too -/
theorem zout {E : String} {ce : Cell} {q9 : Addr} (hnoh : ∀ x ∈ c.exceptionTable.toList, False) (hlocks : meth.locks = false) (hce : H[q9]? = some ce) (hv : ce.vm = .none) (hcl : s.vm.findClass E = some ce.cls) (hP : va_P D cl ws H) (hD : va_D A ws) (hS : va_S A s.heap H locs) (hp : PX E ws) (hc : cells ≤ mc) (hs : slots ≤ ms) :
    vx_W p l e R s m args below meth c H locs cells slots (vx_MQ below (QWr P D cl A) (QXr PX D cl A) args s mc ms A) (F0 m pc ls rest) q9 :=
  vx_out (fun x h => (hnoh x h).elim) hlocks hce hv hcl (fun t ht _ => ⟨ws, hp, by rw [ht]; exact hP, hD, hS.F ht⟩) hS.2.2 hc hs
variable {y : MethodName} {cy : ByteArray} {mL nL n index : Nat} {ret : Option FieldType} {rm : Room} {own C : String} {b : Addr} {As : List Value} {q0 ci N : Nat} {T0 : u_T} {fs : List Value}
theorem cXV (pre ws post : va_W) (S : CallFix p m c cc nL s args lw_all own) (hOK : zOK D cl tys Z) (hz : Z A s s.heap) (hS : va_S A s.heap H locs) (hA : ∀ q : Nat, s.heap.size ≤ q → A q) (hP : va_P D cl (pre ++ (ws ++ post)) H) (hD : va_D A (pre ++ (ws ++ post))) (hM : CtX l y cy mL ret rm Z D cl ws (.ref b :: As) P PX mc ms) (cw : CallW R s args own C index y cy mL ret (ws_ y cy mL ret) rm mc ms n)
    (q0 : Nat) (he : ws[q0]? = some (b, .inr (ci, fs))) (hc : cl[ci]? = some (C, T0, N)) (hn : As.length = n) (hl : ls.size = nL) (hst : st0 = As.reverse ++ .ref b :: rest) (hW : 2 * (F0 m pc ls st0).monitorRoom + (rest.map fun v => v.category).sum ≤ 8) (hf : cells + mc ≤ R.cells ∧ slots + ms ≤ R.slots) (hdg : decode cc pc = .ok (.invokevirtual index, 3))
    (kx : ∀ (E : String) (ws' : va_W) (ce : Cell) (q9 : Addr) (H1 : Heap) (locs1 : List Loc), PX E ws' → va_P D cl (pre ++ (ws' ++ post)) H1 → va_D A (pre ++ (ws' ++ post)) → va_S A s.heap H1 locs1 → H1[q9]? = some ce → ce.vm = .none → s.vm.findClass E = some ce.cls → vx_W p l e R s m args below meth c H1 locs1 (cells + mc) (slots + ms) Q (F0 m pc ls rest) q9)
    (kk : ∀ (r : Option Value) (ws' : va_W) (H1 : Heap) (locs1 : List Loc), P r ws' → va_P D cl (pre ++ (ws' ++ post)) H1 → va_D A (pre ++ (ws' ++ post)) → va_S A s.heap H1 locs1 → W p l e R s m args below meth c H1 locs1 (cells + mc) (slots + ms) Q (F0 m (pc + 3) ls (r.toList ++ rest))) : W p l e R s m args below meth c H locs cells slots Q (F0 m pc ls st0) := by
  have gw : (pre ++ (ws ++ post))[pre.length + q0]? = some (b, .inr (ci, fs)) := by rw [List.getElem?_append_right (by omega), List.getElem?_append_left (by have := (List.getElem?_eq_some_iff.mp he).1; omega), Nat.add_sub_cancel_left]; exact he
  exact cl_X (vx_runV (Qc := QWr P D cl (va_A ws H.size)) (XC := QXr PX D cl (va_A ws H.size)) (Pc := PcW Z D cl ws (.ref b :: As) H.size) S (hM H.size) cw ⟨blindW hOK, va_recv (q := (C, T0, N)) (hOK.1 _ _ _ hz) hP hc gw, readyW hOK hz hS hP hD hA⟩ rfl hn hl hst hW hdg hf) hP hD hS hA kx kk
theorem cXS (pre ws post : va_W) (S : CallFix p m c cc nL s args lw_all own) (hOK : zOK D cl tys Z) (hz : Z A s s.heap) (hS : va_S A s.heap H locs) (hA : ∀ q : Nat, s.heap.size ≤ q → A q) (hP : va_P D cl (pre ++ (ws ++ post)) H) (hD : va_D A (pre ++ (ws ++ post))) (hM : CtX l y cy mL ret rm Z D cl ws As P PX mc ms) (cw : CallB R s args own index y cy mL ret (ws_ y cy mL ret) rm mc ms n ∧ (Cond.static y).before args s = true)
    (hn : As.length = n) (hl : ls.size = nL) (hst : st0 = As.reverse ++ rest) (hW : 2 * (F0 m pc ls st0).monitorRoom + (rest.map fun v => v.category).sum ≤ 8) (hf : cells + mc ≤ R.cells ∧ slots + ms ≤ R.slots) (hdg : decode cc pc = .ok (.invokestatic index, 3))
    (kx : ∀ (E : String) (ws' : va_W) (ce : Cell) (q9 : Addr) (H1 : Heap) (locs1 : List Loc), PX E ws' → va_P D cl (pre ++ (ws' ++ post)) H1 → va_D A (pre ++ (ws' ++ post)) → va_S A s.heap H1 locs1 → H1[q9]? = some ce → ce.vm = .none → s.vm.findClass E = some ce.cls → vx_W p l e R s m args below meth c H1 locs1 (cells + mc) (slots + ms) Q (F0 m pc ls rest) q9)
    (kk : ∀ (r : Option Value) (ws' : va_W) (H1 : Heap) (locs1 : List Loc), P r ws' → va_P D cl (pre ++ (ws' ++ post)) H1 → va_D A (pre ++ (ws' ++ post)) → va_S A s.heap H1 locs1 → W p l e R s m args below meth c H1 locs1 (cells + mc) (slots + ms) Q (F0 m (pc + 3) ls (r.toList ++ rest))) : W p l e R s m args below meth c H locs cells slots Q (F0 m pc ls st0) :=
  cl_X (vx_runS (Qc := QWr P D cl (va_A ws H.size)) (XC := QXr PX D cl (va_A ws H.size)) (Pc := PcW Z D cl ws As H.size) S (hM H.size) cw ⟨blindW hOK, readyW hOK hz hS hP hD hA⟩ rfl hn hl hst hW hdg hf) hP hD hS hA kx kk
/-! the same, by a nest mate -/
variable {host : String}
theorem cRVN {r : Option Value} (S : CallFix p m c cc nL s args lw_all own) (hOK : zOK D cl tys Z) (hz : Z A s s.heap) (hS : va_S A s.heap H locs) (hPc : va_P D cl ws H) (hM : CtR l y cy mL ret rm Z D cl ws (.ref b :: As) r) (cw : va_CN R s args own index y host cy mL ret (ws_ y cy mL ret) rm 0 0 n ∧ (Cond.instanceMethod y).before args s = true ∧ (Cond.selects C y y).before args s = true)
    (q0 : Nat) (he : ws[q0]? = some (b, .inr (ci, fs))) (hc : cl[ci]? = some (C, T0, N)) (hn : As.length = n) (hl : ls.size = nL) (hst : st0 = As.reverse ++ .ref b :: rest) (hW : 2 * (F0 m pc ls st0).monitorRoom + (rest.map fun v => v.category).sum ≤ 8) (hf : cells ≤ R.cells ∧ slots ≤ R.slots) (hdg : decode cc pc = .ok (.invokevirtual index, 3))
    (kk : W p l e R s m args below meth c H locs cells slots Q (F0 m (pc + 3) ls (r.toList ++ rest))) : W p l e R s m args below meth c H locs cells slots Q (F0 m pc ls st0) :=
  cl_R (va_runVN (Qc := QRr r) (Pc := PcR Z D cl ws (.ref b :: As)) S hM cw ⟨blindR hOK, va_recv (q := (C, T0, N)) (hOK.1 _ _ _ hz) hPc hc he, readyR hOK hz hS hPc⟩ rfl hn hl hst hW hdg hf) kk
theorem cRSN {r : Option Value} (S : CallFix p m c cc nL s args lw_all own) (hOK : zOK D cl tys Z) (hz : Z A s s.heap) (hS : va_S A s.heap H locs) (hPc : va_P D cl ws H) (hM : CtR l y cy mL ret rm Z D cl ws As r) (cw : va_CN R s args own index y host cy mL ret (ws_ y cy mL ret) rm 0 0 n ∧ (Cond.static y).before args s = true ∧ True)
    (hn : As.length = n) (hl : ls.size = nL) (hst : st0 = As.reverse ++ rest) (hW : 2 * (F0 m pc ls st0).monitorRoom + (rest.map fun v => v.category).sum ≤ 8) (hf : cells ≤ R.cells ∧ slots ≤ R.slots) (hdg : decode cc pc = .ok (.invokestatic index, 3))
    (kk : W p l e R s m args below meth c H locs cells slots Q (F0 m (pc + 3) ls (r.toList ++ rest))) : W p l e R s m args below meth c H locs cells slots Q (F0 m pc ls st0) :=
  cl_R (va_runSN (Qc := QRr r) (Pc := PcR Z D cl ws As) S hM cw ⟨blindR hOK, readyR hOK hz hS hPc⟩ rfl hn hl hst hW hdg hf) kk
theorem cWVN (pre ws post : va_W) (S : CallFix p m c cc nL s args lw_all own) (hOK : zOK D cl tys Z) (hz : Z A s s.heap) (hS : va_S A s.heap H locs) (hA : ∀ q : Nat, s.heap.size ≤ q → A q) (hP : va_P D cl (pre ++ (ws ++ post)) H) (hD : va_D A (pre ++ (ws ++ post))) (hM : CtW l y cy mL ret rm Z D cl ws (.ref b :: As) P mc ms) (cw : va_CN R s args own index y host cy mL ret (ws_ y cy mL ret) rm mc ms n ∧ (Cond.instanceMethod y).before args s = true ∧ (Cond.selects C y y).before args s = true)
    (q0 : Nat) (he : ws[q0]? = some (b, .inr (ci, fs))) (hc : cl[ci]? = some (C, T0, N)) (hn : As.length = n) (hl : ls.size = nL) (hst : st0 = As.reverse ++ .ref b :: rest) (hW : 2 * (F0 m pc ls st0).monitorRoom + (rest.map fun v => v.category).sum ≤ 8) (hf : cells + mc ≤ R.cells ∧ slots + ms ≤ R.slots) (hdg : decode cc pc = .ok (.invokevirtual index, 3))
    (kk : ∀ (r : Option Value) (ws' : va_W) (H1 : Heap) (locs1 : List Loc), P r ws' → va_P D cl (pre ++ (ws' ++ post)) H1 → va_D A (pre ++ (ws' ++ post)) → va_S A s.heap H1 locs1 → W p l e R s m args below meth c H1 locs1 (cells + mc) (slots + ms) Q (F0 m (pc + 3) ls (r.toList ++ rest))) : W p l e R s m args below meth c H locs cells slots Q (F0 m pc ls st0) := by
  have gw : (pre ++ (ws ++ post))[pre.length + q0]? = some (b, .inr (ci, fs)) := by rw [List.getElem?_append_right (by omega), List.getElem?_append_left (by have := (List.getElem?_eq_some_iff.mp he).1; omega), Nat.add_sub_cancel_left]; exact he
  exact cl_W (va_runVN (Qc := QWr P D cl (va_A ws H.size)) (Pc := PcW Z D cl ws (.ref b :: As) H.size) S (hM H.size) cw ⟨blindW hOK, va_recv (q := (C, T0, N)) (hOK.1 _ _ _ hz) hP hc gw, readyW hOK hz hS hP hD hA⟩ rfl hn hl hst hW hdg hf) hP hD hS hA kk
end ZX
theorem q_nar {T : String} (x : Option Nat) : narrow (.object T) (va_rf x) = va_rf x := by cases x <;> rfl
theorem q_fit {T : String} (x : Option Nat) : fits (.object T) (va_rf x) = true := by cases x <;> rfl
