/-! BASE: booleans as Bool, the partial calculus of the mirrors, one form of contract, calls with the frame inside -/
def bz (b : Bool) : Int32 := cond b 1 0
theorem bz_nar (b : Bool) : narrow .boolean (.int (bz b)) = .int (bz b) := by cases b <;> rfl
theorem bz_fit (b : Bool) : fits .boolean (.int (bz b)) = true := by cases b <;> rfl
theorem bz_vpn (b : Bool) : vp_nar .boolean (bz b) = bz b := by cases b <;> rfl
theorem bz_z {b : Bool} (h : bz b = 0) : ¬ b = true := by
  cases b
  · exact fun h => nomatch h
  · exact absurd h (by decide)
theorem bz_nz {b : Bool} (h : ¬ bz b = 0) : b = true := by
  cases b
  · exact absurd rfl h
  · rfl
def updb (f : Nat → Bool) (k : Nat) (b : Bool) : Nat → Bool := fun j => if j = k then b else f j
theorem bz_upd (f : Nat → Bool) (k : Nat) (b : Bool) : upd (fun i => bz (f i)) k (vp_nar .boolean (bz b)) = fun i => bz (updb f k b i) := by
  funext i
  rw [bz_vpn]
  unfold upd updb
  by_cases h : i = k
  · rw [if_pos h, if_pos h]
  · rw [if_neg h, if_neg h]
/-! the mirrors' calculus: none where the machine would leave the walk -/
def mck {α : Type} (i : Int32) (n : Nat) (K : Option α) : Option α := if i < 0 ∨ n ≤ i.toNatClampNeg then none else K
def mnz {α : Type} (y : Int32) (K : Option α) : Option α := if y = 0 then none else K
def mnl {α : Type} (y : Int64) (K : Option α) : Option α := if y = 0 then none else K
def mob {α β : Type} (x : Option α) (K : α → Option β) : Option β := match x with
  | none => none
  | some a => K a
def mo2 {α β γ : Type} (x : Option (α × β)) (K : α → β → Option γ) : Option γ := match x with
  | none => none
  | some a => K a.1 a.2
def mjn {κ β : Type} (K : κ) (f : κ → β) : β := f K
def mFU : Nat := 100000
def mlt {α β : Type} (a : α) (K : α → β) : β := K a
theorem mlt_s {α β : Type} {a : α} {K : α → β} {o : β} (h : mlt a K = o) (x : α) (e : x = a) : K x = o := by subst e; exact h
def mrm (x y : Int32) : Int32 := x - x / y * y
def mus (x y : Int32) : Int32 := (x.toUInt32 >>> (y.toUInt32 &&& Int32.toUInt32 31)).toInt32
theorem mck_s {α : Type} {i : Int32} {n : Nat} {K o : Option α} {v : α} (ho : o = some v) (h : mck i n K = o) : vp_in i n ∧ K = o := by
  unfold mck at h
  by_cases q : i < 0 ∨ n ≤ i.toNatClampNeg
  · rw [if_pos q, ho] at h; exact nomatch h
  · rw [if_neg q] at h; exact ⟨q, h⟩
theorem mnz_s {α : Type} {i : Int32} {K o : Option α} {v : α} (ho : o = some v) (h : mnz i K = o) : ¬ i = 0 ∧ K = o := by
  unfold mnz at h
  by_cases q : i = 0
  · rw [if_pos q, ho] at h; exact nomatch h
  · rw [if_neg q] at h; exact ⟨q, h⟩
theorem mnl_s {α : Type} {i : Int64} {K o : Option α} {v : α} (ho : o = some v) (h : mnl i K = o) : ¬ i = 0 ∧ K = o := by
  unfold mnl at h
  by_cases q : i = 0
  · rw [if_pos q, ho] at h; exact nomatch h
  · rw [if_neg q] at h; exact ⟨q, h⟩
theorem mob_s {α β : Type} {x : Option α} {K : α → Option β} {o : Option β} {v : β} (ho : o = some v) (h : mob x K = o) : ∃ a, x = some a ∧ K a = o := by
  unfold mob at h
  cases x with
  | none => rw [ho] at h; exact nomatch h
  | some a => exact ⟨a, rfl, h⟩
theorem mo2_s {α β γ : Type} {x : Option (α × β)} {K : α → β → Option γ} {o : Option γ} {v : γ} (ho : o = some v) (h : mo2 x K = o) : ∃ a b, x = some (a, b) ∧ K a b = o := by
  unfold mo2 at h
  cases x with
  | none => rw [ho] at h; exact nomatch h
  | some a => exact ⟨a.1, a.2, rfl, h⟩
theorem mjn_s {κ β : Type} {K : κ} {f : κ → β} {o : β} (h : mjn K f = o) : ∃ K', K' = K ∧ f K' = o := ⟨K, rfl, h⟩
theorem mif_p {α : Type} {c : Prop} [Decidable c] {a b o : α} (hc : c) (h : (if c then a else b) = o) : a = o := by rw [if_pos hc] at h; exact h
theorem mif_n {α : Type} {c : Prop} [Decidable c] {a b o : α} (hc : ¬ c) (h : (if c then a else b) = o) : b = o := by rw [if_neg hc] at h; exact h
theorem mk1 {α β : Type} {K K' : α → β} {a : α} {o : β} (e : K' = K) (h : K' a = o) : K a = o := by rw [← e]; exact h
theorem mk0 {β : Type} {K K' : β} {o : β} (e : K' = K) (h : K' = o) : K = o := by rw [← e]; exact h
/-! contracts: what only reads; what changes its own cells (ws) -/
def zNk (w : Cond) : Bool := match w with
  | .fieldLinkNest .. => true
  | .methodLinkNest .. => true
  | .castable .. => true
  | .declares .. => true
  | _ => false
def zN : List Cond := lw_tbl.filter zNk
theorem zN_of {w : Cond} (h : w ∈ lw_tbl) (g : zNk w = true) : w ∈ zN := List.mem_filter.mpr ⟨h, g⟩
theorem zN_warm {s U : State} (hW : s.WarmedH U.vm) (h : ∀ w ∈ zN, va_Nw w s) : ∀ w ∈ zN, va_Nw w U := by
  intro w hw
  have h1 := h w hw
  have h2 := (List.mem_filter.mp hw).2
  cases w <;> first | exact va_Nw.warmF hW h1 | exact va_Nw.warmM hW h1 | exact va_Nw.warmC hW h1 | exact va_Nw.warmD hW h1 | exact nomatch h2
theorem zN_same {u U : State} (hv : u.vm = U.vm) (h : ∀ w ∈ zN, va_Nw w u) : ∀ w ∈ zN, va_Nw w U := by
  intro w hw
  have h1 := h w hw
  have h2 := (List.mem_filter.mp hw).2
  cases w <;> first | exact va_Nw.same rfl hv h1 | exact nomatch h2
abbrev zZ : Type := (Nat → Prop) → State → Heap → Prop
def zOK (D : va_G) (cl : List vw_C) (tys : List (ClassId × FieldType)) (Z : zZ) : Prop :=
  (∀ A U H, Z A U H → va_K D cl tys U) ∧ (∀ A U H, Z A U H → ∀ w ∈ zN, va_Nw w U) ∧ (∀ A s U H, s.WarmedH U.vm → Z A s H → Z A U H) ∧
  (∀ A U H (g : JFrame) (mk : MethodId) (a : Array Value), Z A U H → Z A (U.calling g mk a) H) ∧
  (∀ A U (H H1 : Heap), (∀ q : Nat, q < H.size → ¬ A q → H1[q]? = H[q]?) → Z A U H → Z A U H1) ∧ (∀ (A B : Nat → Prop) U H, (∀ q, B q → A q) → Z A U H → Z B U H)
def QRr (r : Option Value) : Array Value → State → Outcome → State → Prop := fun _ st oc t => oc = .returned r ∧ t.heap = st.heap
def QWr (P : Option Value → va_W → Prop) (D : va_G) (cl : List vw_C) (A : Nat → Prop) : Array Value → State → Outcome → State → Prop := fun _ st oc t => (∃ (r : Option Value) (ws' : va_W), oc = .returned r ∧ P r ws' ∧ va_P D cl ws' t.heap ∧ va_D A ws') ∧ va_F A st t
def PcR (Z : zZ) (D : va_G) (cl : List vw_C) (ws : va_W) (av : List Value) : Array Value → State → Prop := va_Pc av (fun U => va_P D cl ws U.heap ∧ Z (fun _ => False) U U.heap)
def PcW (Z : zZ) (D : va_G) (cl : List vw_C) (ws : va_W) (av : List Value) (sz : Nat) : Array Value → State → Prop := va_Pc av (fun U => U.heap.size = sz ∧ va_P D cl ws U.heap ∧ Z (va_A ws sz) U U.heap ∧ va_D (fun _ => True) ws)
/-- only reads: answers r -/
def CtR (l : Launch) (y : MethodName) (cc : ByteArray) (mL : Nat) (ret : Option FieldType) (rm : Room) (Z : zZ) (D : va_G) (cl : List vw_C) (ws : va_W) (av : List Value) (r : Option Value) : Prop :=
  Met l y (ws_ y cc mL ret) rm (PcR Z D cl ws av) (QRr r) 0 0 (fun _ => False)
/-- changes its cells ws (and makes mc new ones of ms places): answers r, and they are ws' then, so that P r ws' -/
def CtW (l : Launch) (y : MethodName) (cc : ByteArray) (mL : Nat) (ret : Option FieldType) (rm : Room) (Z : zZ) (D : va_G) (cl : List vw_C) (ws : va_W) (av : List Value) (P : Option Value → va_W → Prop) (mc ms : Nat) : Prop :=
  ∀ sz : Nat, Met l y (ws_ y cc mL ret) rm (PcW Z D cl ws av sz) (QWr P D cl (va_A ws sz)) mc ms (va_A ws sz)
/-- what a method's body knows -/
abbrev zE (p : Program) (s : State) (m : MethodId) (args : Array Value) (meth : Method) (c : Code) (y : MethodName) (cc : ByteArray) (mL : Nat) (ret : Option FieldType) : Prop :=
  p.tables.exec = Jvm.exec ∧ c.code = cc ∧ meth.sig.returnType = ret ∧ c.maxLocals = mL ∧ s.vm.findClass y.cls = some m.cls ∧ (∀ w ∈ lw_all, w.before args s = true) ∧ meth.locks = false ∧ meth.name = y.name
theorem CtR.of {l : Launch} {y : MethodName} {cc : ByteArray} {mL : Nat} {ret : Option FieldType} {rm : Room} {Z : zZ} {D : va_G} {cl : List vw_C} {ws : va_W} {av : List Value} {r : Option Value} (hy : plainName y.cls = true) (hlen : (lg_sl av).length ≤ mL)
    (body : ∀ (p : Program) (e : Env) (s : State) (m : MethodId) (args : Array Value) (below : List Frame) (meth : Method) (c : Code), zE p s m args meth c y cc mL ret → va_P D cl ws s.heap → Z (fun _ => False) s s.heap → ∀ ls : Array Slot, lv_has ls mL (lv_args 0 av) →
      W p l e rm s m args below meth c s.heap [] 0 0 (MQ below (QRr r) args s 0 0 (fun _ => False)) (F0 m 0 ls [])) : CtR l y cc mL ret rm Z D cl ws av r := by
  refine Met.ofW (cc := cc) (maxL := mL) (ret := ret) hy rfl ?_
  intro p e s m args below meth c s₁ B hml hv
  obtain ⟨rfl, hP, hz⟩ := hv
  have hts := atoms_spec (ws := ws_ y cc mL ret) B.pre
  rw [lg_entry_eq]
  exact body p e s m _ below meth c ⟨B.exec, B.bytes, B.returns, hml, findClass_of_methodNamed B.named, fun w h => hts w (List.mem_cons_of_mem _ h), B.notSynchronized, (name_of_methodNamed B.named B.method).1⟩ hP hz _ (lv_entry av hlen)
theorem CtW.of {l : Launch} {y : MethodName} {cc : ByteArray} {mL : Nat} {ret : Option FieldType} {rm : Room} {Z : zZ} {D : va_G} {cl : List vw_C} {ws : va_W} {av : List Value} {P : Option Value → va_W → Prop} {mc ms : Nat} (hy : plainName y.cls = true) (hlen : (lg_sl av).length ≤ mL)
    (body : ∀ (p : Program) (e : Env) (s : State) (m : MethodId) (args : Array Value) (below : List Frame) (meth : Method) (c : Code) (A : Nat → Prop), zE p s m args meth c y cc mL ret → (∀ q : Nat, s.heap.size ≤ q → A q) → va_P D cl ws s.heap → va_D A ws → va_S A s.heap s.heap [] → Z A s s.heap → ∀ ls : Array Slot, lv_has ls mL (lv_args 0 av) →
      W p l e rm s m args below meth c s.heap [] 0 0 (MQ below (QWr P D cl A) args s mc ms A) (F0 m 0 ls [])) : CtW l y cc mL ret rm Z D cl ws av P mc ms := by
  intro sz
  refine Met.ofW (cc := cc) (maxL := mL) (ret := ret) hy rfl ?_
  intro p e s m args below meth c s₁ B hml hv
  obtain ⟨rfl, hsz, hP, hz, hD⟩ := hv
  subst hsz
  have hts := atoms_spec (ws := ws_ y cc mL ret) B.pre
  rw [lg_entry_eq]
  exact body p e s m _ below meth c (va_A ws s.heap.size) ⟨B.exec, B.bytes, B.returns, hml, findClass_of_methodNamed B.named, fun w h => hts w (List.mem_cons_of_mem _ h), B.notSynchronized, (name_of_methodNamed B.named B.method).1⟩ (fun q h => Or.inr h) hP hD.self va_S.rf hz _ (lv_entry av hlen)
section ZC
variable {p : Program} {l : Launch} {e : Env} {R : Room} {s : State} {m : MethodId} {args : Array Value} {below : List Frame} {meth : Method} {c : Code} {H : Heap} {locs : List Loc} {cells slots : Nat} {Q : State → Prop}
variable {pc : Nat} {ls : Array Slot} {rest st0 : List Value} {D : va_G} {cl : List vw_C} {tys : List (ClassId × FieldType)} {Z : zZ} {A : Nat → Prop} {ws pre post : va_W} {P : Option Value → va_W → Prop} {mc ms : Nat} {cc : ByteArray}
theorem retR_i {v : Int32} {r : Option Value} (hx : p.tables.exec = Jvm.exec) (hb : c.code = cc) (hr : meth.sig.returnType = some .int) (hlocks : meth.locks = false) (hp : r = some (.int v)) (hdg : decode cc pc = .ok (.ireturn, 1)) : W p l e R s m args below meth c s.heap [] 0 0 (MQ below (QRr r) args s 0 0 (fun _ => False)) (F0 m pc ls [.int v]) :=
  W.iret hx hb hr (fun t ht _ => ⟨by rw [hp], ht⟩) (fun _ h => nomatch h) hdg hlocks
theorem retR_z {v : Bool} {r : Option Value} (hx : p.tables.exec = Jvm.exec) (hb : c.code = cc) (hr : meth.sig.returnType = some .boolean) (hlocks : meth.locks = false) (hp : r = some (.int (bz v))) (hdg : decode cc pc = .ok (.ireturn, 1)) : W p l e R s m args below meth c s.heap [] 0 0 (MQ below (QRr r) args s 0 0 (fun _ => False)) (F0 m pc ls [.int (bz v)]) :=
  W.zret hx hb hr (bz_nar v) (fun t ht _ => ⟨by rw [hp], ht⟩) (fun _ h => nomatch h) hdg hlocks
theorem retR_v {r : Option Value} (hx : p.tables.exec = Jvm.exec) (hb : c.code = cc) (hr : meth.sig.returnType = none) (hlocks : meth.locks = false) (hp : r = none) (hdg : decode cc pc = .ok (.return_, 1)) : W p l e R s m args below meth c s.heap [] 0 0 (MQ below (QRr r) args s 0 0 (fun _ => False)) (F0 m pc ls []) :=
  W.vret hx hb hr (fun t ht _ => ⟨by rw [hp], ht⟩) (fun _ h => nomatch h) hdg hlocks
theorem retW_i {v : Int32} (hx : p.tables.exec = Jvm.exec) (hb : c.code = cc) (hr : meth.sig.returnType = some .int) (hlocks : meth.locks = false) (hP : va_P D cl ws H) (hD : va_D A ws) (hS : va_S A s.heap H locs) (hp : P (some (.int v)) ws) (hdg : decode cc pc = .ok (.ireturn, 1)) : W p l e R s m args below meth c H locs cells slots (MQ below (QWr P D cl A) args s cells slots A) (F0 m pc ls [.int v]) :=
  W.iret hx hb hr (fun t ht _ => ⟨⟨_, ws, rfl, hp, by rw [ht]; exact hP, hD⟩, hS.F ht⟩) hS.2.2 hdg hlocks
theorem retW_z {v : Bool} (hx : p.tables.exec = Jvm.exec) (hb : c.code = cc) (hr : meth.sig.returnType = some .boolean) (hlocks : meth.locks = false) (hP : va_P D cl ws H) (hD : va_D A ws) (hS : va_S A s.heap H locs) (hp : P (some (.int (bz v))) ws) (hdg : decode cc pc = .ok (.ireturn, 1)) : W p l e R s m args below meth c H locs cells slots (MQ below (QWr P D cl A) args s cells slots A) (F0 m pc ls [.int (bz v)]) :=
  W.zret hx hb hr (bz_nar v) (fun t ht _ => ⟨⟨_, ws, rfl, hp, by rw [ht]; exact hP, hD⟩, hS.F ht⟩) hS.2.2 hdg hlocks
theorem retW_v (hx : p.tables.exec = Jvm.exec) (hb : c.code = cc) (hr : meth.sig.returnType = none) (hlocks : meth.locks = false) (hP : va_P D cl ws H) (hD : va_D A ws) (hS : va_S A s.heap H locs) (hp : P none ws) (hdg : decode cc pc = .ok (.return_, 1)) : W p l e R s m args below meth c H locs cells slots (MQ below (QWr P D cl A) args s cells slots A) (F0 m pc ls []) :=
  W.vret hx hb hr (fun t ht _ => ⟨⟨_, ws, rfl, hp, by rw [ht]; exact hP, hD⟩, hS.F ht⟩) hS.2.2 hdg hlocks
theorem retR_a {a : Addr} {rt : FieldType} {r : Option Value} (hx : p.tables.exec = Jvm.exec) (hb : c.code = cc) (hr : meth.sig.returnType = some rt) (hrt : (∃ n, rt = .object n) ∨ ∃ t, rt = .array t) (hlocks : meth.locks = false) (hp : r = some (.ref a)) (hdg : decode cc pc = .ok (.areturn, 1)) : W p l e R s m args below meth c s.heap [] 0 0 (MQ below (QRr r) args s 0 0 (fun _ => False)) (F0 m pc ls [.ref a]) :=
  W.aret hx hb hr hrt (Or.inr ⟨a, rfl⟩) (fun t ht _ => ⟨by rw [hp], ht⟩) (fun _ h => nomatch h) hdg hlocks
theorem retW_a {a : Addr} {rt : FieldType} (hx : p.tables.exec = Jvm.exec) (hb : c.code = cc) (hr : meth.sig.returnType = some rt) (hrt : (∃ n, rt = .object n) ∨ ∃ t, rt = .array t) (hlocks : meth.locks = false) (hP : va_P D cl ws H) (hD : va_D A ws) (hS : va_S A s.heap H locs) (hp : P (some (.ref a)) ws) (hdg : decode cc pc = .ok (.areturn, 1)) : W p l e R s m args below meth c H locs cells slots (MQ below (QWr P D cl A) args s cells slots A) (F0 m pc ls [.ref a]) :=
  W.aret hx hb hr hrt (Or.inr ⟨a, rfl⟩) (fun t ht _ => ⟨⟨_, ws, rfl, hp, by rw [ht]; exact hP, hD⟩, hS.F ht⟩) hS.2.2 hdg hlocks
theorem cl_R {r : Option Value} {a : Array Value} (hr : va_Run p l e R s m args below meth c H locs cells slots 0 0 (F0 m pc ls st0) rest (QRr r a) (fun _ => False)) (kk : W p l e R s m args below meth c H locs cells slots Q (F0 m (pc + 3) ls (r.toList ++ rest))) : W p l e R s m args below meth c H locs cells slots Q (F0 m pc ls st0) := by
  intro T hT X
  obtain ⟨v, st₀, t, T', L, h0, X', hL, e1, e2, ⟨hv, hh⟩, st⟩ := hr T hT X
  cases hv
  have hL0 : L = [] := List.eq_nil_iff_forall_not_mem.mpr (fun q hq => hL q hq)
  subst hL0
  rw [List.append_nil] at X'
  obtain ⟨t2, a1, b1⟩ := kk T' (by rw [e1, hh, h0]) X'
  exact ⟨t2, st t2 a1, b1⟩
theorem zfree {H0 : Heap} (hD : va_D A (pre ++ (ws ++ post))) (hS : va_S A H0 H locs) (hA : ∀ q : Nat, H0.size ≤ q → A q) : ∀ q, va_A ws H.size q → A q := by
  intro q h
  rcases h with ⟨k, e, h⟩ | h
  · have h1 := List.mem_of_getElem? h
    obtain ⟨i, hi⟩ := List.getElem?_of_mem (List.mem_append_right pre (List.mem_append_left post h1))
    exact hD.2 i _ hi
  · exact hA q (Nat.le_trans hS.1 h)
theorem zjoin {H1 : Heap} {w1 : va_W} (hP : va_P D cl (pre ++ (ws ++ post)) H) (hD : va_D A (pre ++ (ws ++ post))) (hF : ∀ q, va_A ws H.size q → A q) (hk : ∀ q : Nat, q < H.size → ¬ va_A ws H.size q → H1[q]? = H[q]?) (hP1 : va_P D cl w1 H1) (hD1 : va_D (va_A ws H.size) w1) :
    va_P D cl (pre ++ (w1 ++ post)) H1 ∧ va_D A (pre ++ (w1 ++ post)) := by
  have gp : ∀ (k : Nat) (q : Nat × va_E), pre[k]? = some q → (pre ++ (ws ++ post))[k]? = some q ∧ k < pre.length := fun k q h => ⟨by rw [List.getElem?_append_left (List.getElem?_eq_some_iff.mp h).1]; exact h, (List.getElem?_eq_some_iff.mp h).1⟩
  have gw : ∀ (k : Nat) (q : Nat × va_E), ws[k]? = some q → (pre ++ (ws ++ post))[pre.length + k]? = some q ∧ k < ws.length := fun k q h => ⟨by rw [List.getElem?_append_right (by omega), List.getElem?_append_left (by have := (List.getElem?_eq_some_iff.mp h).1; omega), Nat.add_sub_cancel_left]; exact h, (List.getElem?_eq_some_iff.mp h).1⟩
  have gq : ∀ (k : Nat) (q : Nat × va_E), post[k]? = some q → (pre ++ (ws ++ post))[pre.length + (ws.length + k)]? = some q := fun k q h => by rw [List.getElem?_append_right (by omega), List.getElem?_append_right (by omega)]; rw [show pre.length + (ws.length + k) - pre.length - ws.length = k by omega]; exact h
  have apartP : ∀ (k : Nat) (q : Nat × va_E), pre[k]? = some q → q.1 < H.size ∧ ¬ va_A ws H.size q.1 := by
    intro k q h
    have hl := (hP _ q (gp k q h).1).lt
    refine ⟨hl, fun z => ?_⟩
    rcases z with ⟨k2, e, z⟩ | z
    · have e1 := hD.1 _ _ q (q.1, e) (gp k q h).1 (gw k2 _ z).1 rfl
      have := (gp k q h).2
      omega
    · omega
  have apartQ : ∀ (k : Nat) (q : Nat × va_E), post[k]? = some q → q.1 < H.size ∧ ¬ va_A ws H.size q.1 := by
    intro k q h
    have hl := (hP _ q (gq k q h)).lt
    refine ⟨hl, fun z => ?_⟩
    rcases z with ⟨k2, e, z⟩ | z
    · have e1 := hD.1 _ _ q (q.1, e) (gq k q h) (gw k2 _ z).1 rfl
      have := (gw k2 _ z).2
      omega
    · omega
  have dP : va_D A pre := ⟨fun i j x y hi hj hxy => hD.1 i j x y (gp i x hi).1 (gp j y hj).1 hxy, fun k q h => hD.2 _ q (gp k q h).1⟩
  have dQ : va_D A post := ⟨fun i j x y hi hj hxy => by have := hD.1 _ _ x y (gq i x hi) (gq j y hj) hxy; omega, fun k q h => hD.2 _ q (gq k q h)⟩
  refine ⟨va_P.app (fun k q h => ?_) (va_P.app hP1 (fun k q h => ?_)), va_D.app dP (va_D.app (hD1.weaken (fun k q _ h => hF q.1 h)) dQ (fun i j x y hx hy hxy => ?_)) (fun i j x y hx hy hxy => ?_)⟩
  · exact (hP _ q (gp k q h).1).kept (hk q.1 (apartP k q h).1 (apartP k q h).2)
  · exact (hP _ q (gq k q h)).kept (hk q.1 (apartQ k q h).1 (apartQ k q h).2)
  · exact (apartQ j y hy).2 (by rw [← hxy]; exact hD1.2 i x hx)
  · rcases List.mem_append.mp (List.mem_of_getElem? hy) with h | h
    · obtain ⟨j2, hj2⟩ := List.getElem?_of_mem h
      exact (apartP i x hx).2 (by rw [hxy]; exact hD1.2 j2 y hj2)
    · obtain ⟨j2, hj2⟩ := List.getElem?_of_mem h
      have e1 := hD.1 _ _ x y (gp i x hx).1 (gq j2 y hj2) hxy
      have := (gp i x hx).2
      omega
theorem cl_W {a : Array Value} {H0 : Heap} (hr : va_Run p l e R s m args below meth c H locs cells slots mc ms (F0 m pc ls st0) rest (QWr P D cl (va_A ws H.size) a) (va_A ws H.size)) (hP : va_P D cl (pre ++ (ws ++ post)) H) (hD : va_D A (pre ++ (ws ++ post))) (hS : va_S A H0 H locs) (hA : ∀ q : Nat, H0.size ≤ q → A q)
    (kk : ∀ (r : Option Value) (ws' : va_W) (H1 : Heap) (locs1 : List Loc), P r ws' → va_P D cl (pre ++ (ws' ++ post)) H1 → va_D A (pre ++ (ws' ++ post)) → va_S A H0 H1 locs1 → W p l e R s m args below meth c H1 locs1 (cells + mc) (slots + ms) Q (F0 m (pc + 3) ls (r.toList ++ rest))) : W p l e R s m args below meth c H locs cells slots Q (F0 m pc ls st0) := by
  have hF : ∀ q, va_A ws H.size q → A q := zfree hD hS hA
  intro T hT X
  obtain ⟨v, st₀, t, T', L, h0, X', hL, e1, e2, ⟨⟨r, ws', hv, hp, hP1, hD1⟩, hz, hk⟩, st⟩ := hr T hT X
  cases hv
  rw [h0] at hz hk
  obtain ⟨hP2, hD2⟩ := zjoin hP hD hF hk hP1 hD1
  obtain ⟨t2, a1, b1⟩ := kk v ws' T'.heap (locs ++ L) hp (by rw [e1]; exact hP2) hD2
    ⟨Nat.le_trans hS.1 (by rw [e1]; exact hz), fun q h1 h2 => by rw [e1, hk q (Nat.lt_of_lt_of_le h1 hS.1) (fun z => h2 (hF q z))]; exact hS.2.1 q h1 h2, fun q hq => by
      rcases List.mem_append.mp hq with h | h
      · exact hS.2.2 q h
      · exact hF _ (hL q h)⟩ T' rfl X'
  exact ⟨t2, st t2 a1, b1⟩
variable {y : MethodName} {cy : ByteArray} {mL nL n index : Nat} {ret : Option FieldType} {rm : Room} {own C : String} {b : Addr} {As : List Value} {q0 ci N : Nat} {T0 : u_T} {fs : List Value}
theorem blindR (hOK : zOK D cl tys Z) {av : List Value} : FrameBlind (PcR Z D cl ws av) := by
  intro a U g mk h
  obtain ⟨h1, h2, h3⟩ := h
  exact ⟨h1, h2, hOK.2.2.2.1 _ _ _ g mk a h3⟩
theorem blindW (hOK : zOK D cl tys Z) {av : List Value} {sz : Nat} : FrameBlind (PcW Z D cl ws av sz) := by
  intro a U g mk h
  obtain ⟨h1, h2, h3, h4, h5⟩ := h
  exact ⟨h1, h2, h3, hOK.2.2.2.1 _ _ _ g mk a h4, h5⟩
theorem readyR (hOK : zOK D cl tys Z) (hz : Z A s s.heap) (hS : va_S A s.heap H locs) (hPc : va_P D cl ws H) {av : List Value} : ∀ U : State, U.heap = H → s.WarmedH U.vm → PcR Z D cl ws av av.toArray U := by
  intro U hU hW
  subst hU
  exact ⟨rfl, hPc, hOK.2.2.1 _ _ _ _ hW (hOK.2.2.2.2.2 _ _ _ _ (fun _ h => h.elim) (hOK.2.2.2.2.1 _ _ _ _ hS.2.1 hz))⟩
theorem readyW (hOK : zOK D cl tys Z) (hz : Z A s s.heap) (hS : va_S A s.heap H locs) (hP : va_P D cl (pre ++ (ws ++ post)) H) (hD : va_D A (pre ++ (ws ++ post))) (hA : ∀ q : Nat, s.heap.size ≤ q → A q) {av : List Value} : ∀ U : State, U.heap = H → s.WarmedH U.vm → PcW Z D cl ws av H.size av.toArray U := by
  intro U hU hW
  subst hU
  have gw : ∀ (k : Nat) (q : Nat × va_E), ws[k]? = some q → (pre ++ (ws ++ post))[pre.length + k]? = some q := fun k q h => by rw [List.getElem?_append_right (by omega), List.getElem?_append_left (by have := (List.getElem?_eq_some_iff.mp h).1; omega), Nat.add_sub_cancel_left]; exact h
  refine ⟨rfl, rfl, fun k q h => hP _ q (gw k q h), hOK.2.2.1 _ _ _ _ hW (hOK.2.2.2.2.2 _ _ _ _ (zfree hD hS hA) (hOK.2.2.2.2.1 _ _ _ _ hS.2.1 hz)), fun i j x y hi hj hxy => ?_, fun _ _ _ => trivial⟩
  have := hD.1 _ _ x y (gw i x hi) (gw j y hj) hxy
  omega
/-- a call through an object, of what only reads -/
theorem cRV {r : Option Value} (S : CallFix p m c cc nL s args lw_all own) (hOK : zOK D cl tys Z) (hz : Z A s s.heap) (hS : va_S A s.heap H locs) (hPc : va_P D cl ws H) (hM : CtR l y cy mL ret rm Z D cl ws (.ref b :: As) r) (cw : CallW R s args own C index y cy mL ret (ws_ y cy mL ret) rm 0 0 n)
    (q0 : Nat) (he : ws[q0]? = some (b, .inr (ci, fs))) (hc : cl[ci]? = some (C, T0, N)) (hn : As.length = n) (hl : ls.size = nL) (hst : st0 = As.reverse ++ .ref b :: rest) (hW : 2 * (F0 m pc ls st0).monitorRoom + (rest.map fun v => v.category).sum ≤ 8) (hf : cells ≤ R.cells ∧ slots ≤ R.slots) (hdg : decode cc pc = .ok (.invokevirtual index, 3))
    (kk : W p l e R s m args below meth c H locs cells slots Q (F0 m (pc + 3) ls (r.toList ++ rest))) : W p l e R s m args below meth c H locs cells slots Q (F0 m pc ls st0) :=
  cl_R (va_runV (Qc := QRr r) (Pc := PcR Z D cl ws (.ref b :: As)) S hM cw ⟨blindR hOK, va_recv (q := (C, T0, N)) (hOK.1 _ _ _ hz) hPc hc he, readyR hOK hz hS hPc⟩ rfl hn hl hst hW hdg hf) kk
/-- a static call, of what only reads -/
theorem cRS {r : Option Value} (S : CallFix p m c cc nL s args lw_all own) (hOK : zOK D cl tys Z) (hz : Z A s s.heap) (hS : va_S A s.heap H locs) (hPc : va_P D cl ws H) (hM : CtR l y cy mL ret rm Z D cl ws As r) (cw : CallB R s args own index y cy mL ret (ws_ y cy mL ret) rm 0 0 n ∧ (Cond.static y).before args s = true)
    (hn : As.length = n) (hl : ls.size = nL) (hst : st0 = As.reverse ++ rest) (hW : 2 * (F0 m pc ls st0).monitorRoom + (rest.map fun v => v.category).sum ≤ 8) (hf : cells ≤ R.cells ∧ slots ≤ R.slots) (hdg : decode cc pc = .ok (.invokestatic index, 3))
    (kk : W p l e R s m args below meth c H locs cells slots Q (F0 m (pc + 3) ls (r.toList ++ rest))) : W p l e R s m args below meth c H locs cells slots Q (F0 m pc ls st0) :=
  cl_R (va_runS (Qc := QRr r) (Pc := PcR Z D cl ws As) S hM cw ⟨blindR hOK, readyR hOK hz hS hPc⟩ rfl hn hl hst hW hdg hf) kk
/-- a call through an object, of what changes its cells -/
theorem cWV (pre ws post : va_W) (S : CallFix p m c cc nL s args lw_all own) (hOK : zOK D cl tys Z) (hz : Z A s s.heap) (hS : va_S A s.heap H locs) (hA : ∀ q : Nat, s.heap.size ≤ q → A q) (hP : va_P D cl (pre ++ (ws ++ post)) H) (hD : va_D A (pre ++ (ws ++ post))) (hM : CtW l y cy mL ret rm Z D cl ws (.ref b :: As) P mc ms) (cw : CallW R s args own C index y cy mL ret (ws_ y cy mL ret) rm mc ms n)
    (q0 : Nat) (he : ws[q0]? = some (b, .inr (ci, fs))) (hc : cl[ci]? = some (C, T0, N)) (hn : As.length = n) (hl : ls.size = nL) (hst : st0 = As.reverse ++ .ref b :: rest) (hW : 2 * (F0 m pc ls st0).monitorRoom + (rest.map fun v => v.category).sum ≤ 8) (hf : cells + mc ≤ R.cells ∧ slots + ms ≤ R.slots) (hdg : decode cc pc = .ok (.invokevirtual index, 3))
    (kk : ∀ (r : Option Value) (ws' : va_W) (H1 : Heap) (locs1 : List Loc), P r ws' → va_P D cl (pre ++ (ws' ++ post)) H1 → va_D A (pre ++ (ws' ++ post)) → va_S A s.heap H1 locs1 → W p l e R s m args below meth c H1 locs1 (cells + mc) (slots + ms) Q (F0 m (pc + 3) ls (r.toList ++ rest))) : W p l e R s m args below meth c H locs cells slots Q (F0 m pc ls st0) := by
  have gw : (pre ++ (ws ++ post))[pre.length + q0]? = some (b, .inr (ci, fs)) := by rw [List.getElem?_append_right (by omega), List.getElem?_append_left (by have := (List.getElem?_eq_some_iff.mp he).1; omega), Nat.add_sub_cancel_left]; exact he
  exact cl_W (va_runV (Qc := QWr P D cl (va_A ws H.size)) (Pc := PcW Z D cl ws (.ref b :: As) H.size) S (hM H.size) cw ⟨blindW hOK, va_recv (q := (C, T0, N)) (hOK.1 _ _ _ hz) hP hc gw, readyW hOK hz hS hP hD hA⟩ rfl hn hl hst hW hdg hf) hP hD hS hA kk
/-- a static call, of what changes its cells -/
theorem cWS (pre ws post : va_W) (S : CallFix p m c cc nL s args lw_all own) (hOK : zOK D cl tys Z) (hz : Z A s s.heap) (hS : va_S A s.heap H locs) (hA : ∀ q : Nat, s.heap.size ≤ q → A q) (hP : va_P D cl (pre ++ (ws ++ post)) H) (hD : va_D A (pre ++ (ws ++ post))) (hM : CtW l y cy mL ret rm Z D cl ws As P mc ms) (cw : CallB R s args own index y cy mL ret (ws_ y cy mL ret) rm mc ms n ∧ (Cond.static y).before args s = true)
    (hn : As.length = n) (hl : ls.size = nL) (hst : st0 = As.reverse ++ rest) (hW : 2 * (F0 m pc ls st0).monitorRoom + (rest.map fun v => v.category).sum ≤ 8) (hf : cells + mc ≤ R.cells ∧ slots + ms ≤ R.slots) (hdg : decode cc pc = .ok (.invokestatic index, 3))
    (kk : ∀ (r : Option Value) (ws' : va_W) (H1 : Heap) (locs1 : List Loc), P r ws' → va_P D cl (pre ++ (ws' ++ post)) H1 → va_D A (pre ++ (ws' ++ post)) → va_S A s.heap H1 locs1 → W p l e R s m args below meth c H1 locs1 (cells + mc) (slots + ms) Q (F0 m (pc + 3) ls (r.toList ++ rest))) : W p l e R s m args below meth c H locs cells slots Q (F0 m pc ls st0) :=
  cl_W (va_runS (Qc := QWr P D cl (va_A ws H.size)) (Pc := PcW Z D cl ws As H.size) S (hM H.size) cw ⟨blindW hOK, readyW hOK hz hS hP hD hA⟩ rfl hn hl hst hW hdg hf) hP hD hS hA kk
theorem zP0 : va_P D cl [] H := fun k q h => by simp at h
theorem cWV0 (S : CallFix p m c cc nL s args lw_all own) (hOK : zOK D cl tys Z) (hz : Z A s s.heap) (hS : va_S A s.heap H locs) (hA : ∀ q : Nat, s.heap.size ≤ q → A q) (hP : va_P D cl ws H) (hD : va_D A ws) (hM : CtW l y cy mL ret rm Z D cl ws (.ref b :: As) P mc ms) (cw : CallW R s args own C index y cy mL ret (ws_ y cy mL ret) rm mc ms n)
    (q0 : Nat) (he : ws[q0]? = some (b, .inr (ci, fs))) (hc : cl[ci]? = some (C, T0, N)) (hn : As.length = n) (hl : ls.size = nL) (hst : st0 = As.reverse ++ .ref b :: rest) (hW : 2 * (F0 m pc ls st0).monitorRoom + (rest.map fun v => v.category).sum ≤ 8) (hf : cells + mc ≤ R.cells ∧ slots + ms ≤ R.slots) (hdg : decode cc pc = .ok (.invokevirtual index, 3))
    (kk : ∀ (r : Option Value) (ws' : va_W) (H1 : Heap) (locs1 : List Loc), P r ws' → va_P D cl ws' H1 → va_D A ws' → va_S A s.heap H1 locs1 → W p l e R s m args below meth c H1 locs1 (cells + mc) (slots + ms) Q (F0 m (pc + 3) ls (r.toList ++ rest))) : W p l e R s m args below meth c H locs cells slots Q (F0 m pc ls st0) :=
  cWV [] ws [] S hOK hz hS hA (by simpa only [List.nil_append, List.append_nil] using hP) (by simpa only [List.nil_append, List.append_nil] using hD) hM cw q0 he hc hn hl hst hW hf hdg (fun r ws' H1 locs1 h1 h2 h3 h4 => kk r ws' H1 locs1 h1 (by simpa only [List.nil_append, List.append_nil] using h2) (by simpa only [List.nil_append, List.append_nil] using h3) h4)
variable {a : Nat} {t0 : Nat} {cA : ClassId} {f : Nat → Int32} {H0 : Heap}
theorem va_ialdk (hx : p.tables.exec = Jvm.exec) (hb : c.code = cc) (hK : va_K D cl tys s) (hP : va_P D cl ws H) (q0 t0 : Nat) {k : Nat} (ha : ws[q0]? = some (a, .inl (cA, n, .inl f))) (ht : tys[t0]? = some (cA, .int)) {i : Int32} (hk : i.toNatClampNeg = k) (hin : vp_in i n) (hdg : decode cc pc = .ok (.iaload, 1))
    (kk : W p l e R s m args below meth c H locs cells slots Q (F0 m (pc + 1) ls (.int (f k) :: rest))) : W p l e R s m args below meth c H locs cells slots Q (F0 m pc ls (.int i :: .ref a :: rest)) := by
  subst hk
  exact va_iald hx hb hK hP q0 t0 ha ht hin hdg kk
theorem va_zaldk (hx : p.tables.exec = Jvm.exec) (hb : c.code = cc) (hK : va_K D cl tys s) (hP : va_P D cl ws H) (q0 t0 : Nat) {k : Nat} (ha : ws[q0]? = some (a, .inl (cA, n, .inl f))) (ht : tys[t0]? = some (cA, .boolean)) {i : Int32} (hk : i.toNatClampNeg = k) (hin : vp_in i n) (hdg : decode cc pc = .ok (.baload, 1))
    (kk : W p l e R s m args below meth c H locs cells slots Q (F0 m (pc + 1) ls (.int (f k) :: rest))) : W p l e R s m args below meth c H locs cells slots Q (F0 m pc ls (.int i :: .ref a :: rest)) := by
  subst hk
  exact va_zald hx hb hK hP q0 t0 ha ht hin hdg kk
theorem va_iastk (hx : p.tables.exec = Jvm.exec) (hb : c.code = cc) (hK : va_K D cl tys s) (hP : va_P D cl ws H) (hD : va_D A ws) (hS : va_S A H0 H locs) (q0 t0 : Nat) {k : Nat} (ha : ws[q0]? = some (a, .inl (cA, n, .inl f))) (ht : tys[t0]? = some (cA, .int)) {i x : Int32} (hk : i.toNatClampNeg = k) (hin : vp_in i n) (hdg : decode cc pc = .ok (.iastore, 1))
    (kk : ∀ (H1 : Heap) (locs1 : List Loc), va_P D cl (ws.set q0 (a, .inl (cA, n, .inl (upd f k x)))) H1 → va_D A (ws.set q0 (a, .inl (cA, n, .inl (upd f k x)))) → va_S A H0 H1 locs1 → W p l e R s m args below meth c H1 locs1 cells slots Q (F0 m (pc + 1) ls rest)) : W p l e R s m args below meth c H locs cells slots Q (F0 m pc ls (.int x :: .int i :: .ref a :: rest)) := by
  subst hk
  exact va_iast hx hb hK hP hD hS q0 t0 ha ht hin hdg kk
end ZC
