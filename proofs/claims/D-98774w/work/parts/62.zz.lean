/-! WHAT HOLDS ALL THROUGH: classes, statics, String constants -/
def zGood (X : zZ) : Prop := (∀ A s U H, s.WarmedH U.vm → X A s H → X A U H) ∧ (∀ A U H (g : JFrame) (mk : MethodId) (a : Array Value), X A U H → X A (U.calling g mk a) H) ∧ (∀ A U (H H1 : Heap), (∀ q : Nat, q < H.size → ¬ A q → H1[q]? = H[q]?) → X A U H → X A U H1) ∧ (∀ (A B : Nat → Prop) U H, (∀ q, B q → A q) → X A U H → X B U H)
theorem zGood.and {X Y : zZ} (h : zGood X) (g : zGood Y) : zGood (fun A U H => X A U H ∧ Y A U H) :=
  ⟨fun A s U H hW z => ⟨h.1 A s U H hW z.1, g.1 A s U H hW z.2⟩, fun A U H f mk a z => ⟨h.2.1 A U H f mk a z.1, g.2.1 A U H f mk a z.2⟩, fun A U H H1 hq z => ⟨h.2.2.1 A U H H1 hq z.1, g.2.2.1 A U H H1 hq z.2⟩, fun A B U H hq z => ⟨h.2.2.2 A B U H hq z.1, g.2.2.2 A B U H hq z.2⟩⟩
theorem zGood.all {ι : Type} {p : ι → Prop} {X : ι → zZ} (h : ∀ i, zGood (X i)) : zGood (fun A U H => ∀ i, p i → X i A U H) :=
  ⟨fun A s U H hW z i hi => (h i).1 A s U H hW (z i hi), fun A U H f mk a z i hi => (h i).2.1 A U H f mk a (z i hi), fun A U H H1 hq z i hi => (h i).2.2.1 A U H H1 hq (z i hi), fun A B U H hq z i hi => (h i).2.2.2 A B U H hq (z i hi)⟩
theorem zGood.mv {X : zZ} (mv : ∀ A u U H, u.vm.Alike U.vm → X A u H → X A U H) (kp : ∀ A U (H H1 : Heap), (∀ q : Nat, q < H.size → ¬ A q → H1[q]? = H[q]?) → X A U H → X A U H1) (nw : ∀ (A B : Nat → Prop) U H, (∀ q, B q → A q) → X A U H → X B U H) : zGood X :=
  ⟨fun _ _ _ _ hW h => mv _ _ _ _ hW.alike h, fun _ U _ g mk a h => mv _ U (U.calling g mk a) _ (Vm.Alike.refl U.vm) h, kp, nw⟩
theorem zGood.st {X : State → Prop} (mv : ∀ u U, u.vm.Alike U.vm → X u → X U) : zGood (fun _ U _ => X U) := zGood.mv (fun _ u U _ h z => mv u U h z) (fun _ _ _ _ _ z => z) (fun _ _ _ _ _ z => z)
theorem g_K (D : va_G) (cl : List vw_C) (tys : List (ClassId × FieldType)) : zGood (fun _ U _ => va_K D cl tys U) := zGood.st (fun _ _ h z => va_K.moved h z)
theorem g_N : zGood (fun _ U _ => ∀ w ∈ zN, va_Nw w U) := ⟨fun _ _ _ _ hW h => zN_warm hW h, fun _ U _ g mk a h => zN_same (u := U) (U := U.calling g mk a) rfl h, fun _ _ _ _ _ h => h, fun _ _ _ _ _ h => h⟩
theorem g_Z (C n d : String) (v : Value) : zGood (fun A U H => va_Z C n d v A U H) := zGood.mv (fun _ _ _ _ h z => va_Z.moved h z) (fun _ _ _ _ h z => z.kept h) (fun _ _ _ _ h z => z.narrow h)
theorem g_Zq (C n d : String) : zGood (fun A U H => va_Zq C n d A U H) := zGood.mv (fun _ _ _ _ h z => va_Zq.moved h z) (fun _ _ _ _ h z => z.kept h) (fun _ _ _ _ h z => z.narrow h)
theorem g_xZq (C n d : String) : zGood (fun A U H => vx_Zq C n d A U H) := zGood.mv (fun _ _ _ _ h z => vx_Zq.moved h z) (fun _ _ _ _ h z => z.kept h) (fun _ _ _ _ h z => z.narrow h)
theorem g_S (N : Nat) (len : List Nat) (byt : List (List Int32)) (adK adV : Nat → Nat) : zGood (fun A U H => vk_S N len byt adK adV A U H) := zGood.mv (fun _ _ _ _ h z => vk_S.moved h z) (fun _ _ _ _ h z => z.kept h) (fun _ _ _ _ h z => z.narrow h)
theorem g_R (own : String) (k : Nat) (tx : String) (a : Nat) : zGood (fun _ U _ => vk_R own k tx a U) := ⟨fun _ _ _ _ hW h => vk_R.warm hW h, fun _ U _ g mk a h => vk_R.same (U := U.calling g mk a) rfl h, fun _ _ _ _ _ h => h, fun _ _ _ _ _ h => h⟩
theorem g_T (ty : FieldType) (t N : Nat) (f : Nat → Value) : zGood (fun A U H => va_T ty t N f A U H) := zGood.mv (fun _ _ _ _ h z => va_T.moved h z) (fun _ _ _ _ h z => z.kept h) (fun _ _ _ _ h z => z.narrow h)
theorem g_O (E : String) (t : Nat) : zGood (fun A U H => va_O E t A U H) := zGood.mv (fun _ _ _ _ h z => va_O.moved h z) (fun _ _ _ _ h z => z.kept h) (fun _ _ _ _ h z => z.narrow h)
theorem g_OF (a b c : String) (v : Value) (t : Nat) : zGood (fun A U H => va_OF a b c v t A U H) := zGood.mv (fun _ _ _ _ h z => va_OF.moved h z) (fun _ _ _ _ h z => z.kept h) (fun _ _ _ _ h z => z.narrow h)
theorem g_AO (C : String) : zGood (fun _ U _ => va_AO C U) := zGood.st (fun _ _ h z => va_AO.moved h z)
theorem g_Mi (C : String) (mi : Nat) : zGood (fun _ U _ => va_Mi C mi U) := zGood.st (fun _ _ h z => va_Mi.moved h z)
theorem g_Nc (C E : String) : zGood (fun _ U _ => va_Nc C E U) := zGood.st (fun _ _ h z => va_Nc.moved h z)
theorem g_Fw (C : String) (y : MethodName) : zGood (fun _ U _ => va_Fw C yCond y U) := zGood.st (fun _ _ h z => va_Fw.moved ⟨by decide +kernel, by decide +kernel⟩ h z)
theorem sel_moved {C : String} {y : MethodName} (hy : y.cls ≠ "java/lang/invoke/MethodHandle" ∧ y.cls ≠ "java/lang/invoke/VarHandle") {u U : State} (hv : u.vm.Alike U.vm) (h : ∀ a : Array Value, (Cond.selects C y y).before a u = true) : ∀ a : Array Value, (Cond.selects C y y).before a U = true := by
  intro a
  obtain ⟨c, r, m, h1, h2, h3, -⟩ := Cond.selects_spec (h a)
  have h4 := h a
  rw [← Cond.selects_setVm hv h3 hy] at h4
  exact va_tabs rfl (rfl : (u.setVm U.vm).vm = U.vm) h4
theorem g_Sel (C : String) (y : MethodName) (hy : y.cls ≠ "java/lang/invoke/MethodHandle" ∧ y.cls ≠ "java/lang/invoke/VarHandle") : zGood (fun _ U _ => ∀ a : Array Value, (Cond.selects C y y).before a U = true) := zGood.st (fun _ _ h z => sel_moved hy h z)
theorem sel_priv {C : String} {y : MethodName} {s : State} {args : Array Value} {n : Nat} {x : String} {d : String} (hy : y.cls ≠ "java/lang/invoke/MethodHandle" ∧ y.cls ≠ "java/lang/invoke/VarHandle")
    (hins : (Cond.instantiable C n).before args s = true) (hsame : (Cond.sameMethod y.cls y.cls x d).before args s = true) (hpriv : (Cond.privateMethod y).before args s = true) (hinst : (Cond.instanceMethod y).before args s = true) : ∀ a : Array Value, (Cond.selects C y y).before a s = true := by
  intro a
  obtain ⟨c, k, hc, hk, -, hniab, -, -⟩ := Cond.instantiable_spec hins
  obtain ⟨c2, k2, r2, hc2, hk2, hni, -, -⟩ := Cond.sameMethod_found hsame
  obtain ⟨mk, methM, hnamed, hmethM, -, -⟩ := Cond.instanceMethod_spec hinst
  have hfound : s.methodFound? y.cls y.name y.desc = some mk := State.methodFound?_of_named hnamed hy
  have hcls : mk.cls = c2 := Option.some.inj ((findClass_of_methodNamed hnamed).symm.trans hc2)
  have hsel : selectMethod {} s.vm c mk = .method mk := selectMethod_private hmethM (Cond.privateMethod_at hpriv mk methM hnamed hmethM)
  simp only [Cond.before, Cond.holds, Cond.value, hc, hfound, hnamed, hsel, hcls, hk2]
  simp; exact hni
/-- the picture's zVl, its second part: the array $VALUES -/
def vaVs (k : Nat → ClassId) (aF : Nat → Nat) (vq : Nat) (A : Nat → Prop) (_ : State) (H : Heap) : Prop := ∃ cell : Cell, H[vq]? = some cell ∧ cell.vm.isStatics = false ∧ cell.vm ≠ .unknown ∧ cell.cls = k 5 ∧ cell.slots = (arrV (k 5) 7 (fun j => va_rf (fcA aF j))).slots ∧ ¬ A vq
theorem g_Vs (k : Nat → ClassId) (aF : Nat → Nat) (vq : Nat) : zGood (vaVs k aF vq) := by
  refine zGood.mv (fun _ _ _ _ _ z => z) ?_ ?_
  · rintro A U H H1 hq ⟨cell, h1, h2, h3, h4, h5, h6⟩
    exact ⟨cell, by rw [hq vq (Array.getElem?_eq_some_iff.mp h1).1 h6]; exact h1, h2, h3, h4, h5, h6⟩
  · rintro A B U H hq ⟨cell, h1, h2, h3, h4, h5, h6⟩
    exact ⟨cell, h1, h2, h3, h4, h5, fun h => h6 (hq _ h)⟩
def zZZ (D : va_G) (k : Nat → ClassId) (adK adV : Nat → Nat) (e0 mi : Nat) (aF : Nat → Nat) (vq : Nat) : zZ := fun A U H => va_K D zCl (zTy6 k) U ∧ (∀ w ∈ zN, va_Nw w U) ∧ (vx_Zq Bundle.tN "UNASSIGNED_STACK" Bundle.steD A U H ∧ vx_Zq Bundle.tN "SUPPRESSED_SENTINEL" Bundle.listD A U H) ∧ (vk_S stN stLen stByt adK adV A U H ∧ (∀ q ∈ stRefs, vk_R q.1 q.2.1 q.2.2.1 (adK q.2.2.2) U) ∧ va_Z "java/lang/String" "COMPACT_STRINGS" "Z" (.int 1) A U H ∧ va_Zq "jdk/internal/util/Preconditions" "SIOOBE_FORMATTER" "Ljava/util/function/BiFunction;" A U H) ∧ (va_AO "java/lang/Object" U ∧ va_Z "java/util/ArrayList" "DEFAULTCAPACITY_EMPTY_ELEMENTDATA" "[Ljava/lang/Object;" (.ref e0) A U H ∧ va_T (.object "java/lang/Object") e0 0 (fun _ => .null) A U H ∧ va_Mi "[Ljava/lang/Object;" mi U) ∧ (∀ i, i < 7 → va_O "SaturdayKeep$Fact" (aF i) A U H ∧ va_OF "java/lang/Enum" "ordinal" "I" (.int (nI i)) (aF i) A U H) ∧ (va_Fw RX10 yCond yX10_holds U ∧ va_Fw RX11 yCond yX11_holds U ∧ va_Fw RX12 yCond yX12_holds U ∧ va_Fw RX16 yCond yX16_holds U) ∧ (va_Z "SaturdayKeep$Fact" "$VALUES" "[LSaturdayKeep$Fact;" (.ref vq) A U H ∧ vaVs k aF vq A U H ∧ ∀ i, i < 7 → va_OF "SaturdayKeep$Fact" "told" "Ljava/lang/String;" (.ref (adK (fcS i))) (aF i) A U H) ∧ (va_Nc eU eA U ∧ va_Nc eN eI U ∧ va_Nc eA eI U ∧ va_Nc eN eA U) ∧ ((∀ a : Array Value, (Cond.selects RJ4 yJ3_ensureCapacityInternal yJ3_ensureCapacityInternal).before a U = true) ∧ ∀ a : Array Value, (Cond.selects RJ4 yJ3_newCapacity yJ3_newCapacity).before a U = true)
theorem zZZ_good (D : va_G) (k : Nat → ClassId) (adK adV : Nat → Nat) (e0 mi : Nat) (aF : Nat → Nat) (vq : Nat) : zGood (zZZ D k adK adV e0 mi aF vq) := (g_K _ _ _).and ((g_N).and (((g_xZq _ _ _).and (g_xZq _ _ _)).and (((g_S _ _ _ _ _).and ((zGood.all (p := fun q => q ∈ stRefs) (fun q => g_R q.1 q.2.1 q.2.2.1 (adK q.2.2.2))).and ((g_Z _ _ _ _).and (g_Zq _ _ _)))).and (((g_AO _).and ((g_Z _ _ _ _).and ((g_T _ _ _ _).and (g_Mi _ _)))).and ((zGood.all (p := fun i => i < 7) (fun i => (g_O _ (aF i)).and (g_OF _ _ _ (.int (nI i)) (aF i)))).and (((g_Fw _ _).and ((g_Fw _ _).and ((g_Fw _ _).and (g_Fw _ _)))).and (((g_Z _ _ _ _).and ((g_Vs _ _ _).and (zGood.all (p := fun i => i < 7) (fun i => g_OF _ _ _ (.ref (adK (fcS i))) (aF i))))).and (((g_Nc _ _).and ((g_Nc _ _).and ((g_Nc _ _).and (g_Nc _ _)))).and ((g_Sel _ _ ⟨by decide +kernel, by decide +kernel⟩).and (g_Sel _ _ ⟨by decide +kernel, by decide +kernel⟩))))))))))
theorem zZZ_ok6 {D : va_G} {k : Nat → ClassId} {adK adV : Nat → Nat} {e0 mi : Nat} {aF : Nat → Nat} {vq : Nat} : zOK D zCl (zTy6 k) (zZZ D k adK adV e0 mi aF vq) := ⟨fun _ _ _ h => h.1, fun _ _ _ h => h.2.1, (zZZ_good D k adK adV e0 mi aF vq).1, (zZZ_good D k adK adV e0 mi aF vq).2.1, (zZZ_good D k adK adV e0 mi aF vq).2.2.1, (zZZ_good D k adK adV e0 mi aF vq).2.2.2⟩
theorem zZZ_th {D : va_G} {k : Nat → ClassId} {adK adV : Nat → Nat} {e0 mi : Nat} {aF : Nat → Nat} {vq : Nat} : zTh (zZZ D k adK adV e0 mi aF vq) := fun _ _ _ h => h.2.2.1
theorem zZZ_str {D : va_G} {k : Nat → ClassId} {adK adV : Nat → Nat} {e0 mi : Nat} {aF : Nat → Nat} {vq : Nat} : zStr (zZZ D k adK adV e0 mi aF vq) adK adV := fun _ _ _ h => h.2.2.2.1
theorem zZZ_ls {D : va_G} {k : Nat → ClassId} {adK adV : Nat → Nat} {e0 mi : Nat} {aF : Nat → Nat} {vq : Nat} : zLs (zZZ D k adK adV e0 mi aF vq) e0 mi := fun _ _ _ h => h.2.2.2.2.1
theorem zZZ_fa {D : va_G} {k : Nat → ClassId} {adK adV : Nat → Nat} {e0 mi : Nat} {aF : Nat → Nat} {vq : Nat} : zFa (zZZ D k adK adV e0 mi aF vq) aF := fun _ _ _ h => h.2.2.2.2.2.1
theorem zZZ_fw {D : va_G} {k : Nat → ClassId} {adK adV : Nat → Nat} {e0 mi : Nat} {aF : Nat → Nat} {vq : Nat} : zFw (zZZ D k adK adV e0 mi aF vq) := fun _ _ _ h => h.2.2.2.2.2.2.1
theorem zZZ_vl {D : va_G} {k : Nat → ClassId} {adK adV : Nat → Nat} {e0 mi : Nat} {aF : Nat → Nat} {vq : Nat} : zVl k (zZZ D k adK adV e0 mi aF vq) aF adK vq := fun _ _ _ h => h.2.2.2.2.2.2.2.1
theorem zZZ_nc {D : va_G} {k : Nat → ClassId} {adK adV : Nat → Nat} {e0 mi : Nat} {aF : Nat → Nat} {vq : Nat} : zNc (zZZ D k adK adV e0 mi aF vq) := fun _ _ _ h => h.2.2.2.2.2.2.2.2.1
theorem zZZ_pv {D : va_G} {k : Nat → ClassId} {adK adV : Nat → Nat} {e0 mi : Nat} {aF : Nat → Nat} {vq : Nat} : zPv (zZZ D k adK adV e0 mi aF vq) := fun _ _ _ h a => ⟨h.2.2.2.2.2.2.2.2.2.1 a, h.2.2.2.2.2.2.2.2.2.2 a⟩
def nwF : List Cond := flatC narrow_1
theorem nw_all {args : Array Value} {s : State} (h : (Jvm.Cond.and given_1 narrow_1).before args s = true) (i : Nat) {w : Cond} (hw : nwF[i]? = some w) : w.before args s = true :=
  flat_of_before (Jvm.Cond.and given_1 narrow_1) h w (List.mem_append_right (flatC given_1) (List.mem_of_getElem? hw))
def tmS (i : Nat) : Term := [Term.string "SaturdayKeep" 135, Term.string "SaturdayKeep" 137, Term.string "SaturdayKeep" 139, Term.string "SaturdayKeep" 141, Term.string "SaturdayKeep" 143, Term.string "SaturdayKeep" 145, Term.string "SaturdayKeep" 147, Term.string "SaturdayKeep" 149, Term.string "SaturdayKeep" 151, Term.string "SaturdayKeep" 99, Term.string "SaturdayKeep" 107, Term.string "SaturdayKeep" 112, Term.string "SaturdayKeep" 121, Term.string "SaturdayKeep" 297, Term.string "SaturdayKeep" 301, Term.string "SaturdayKeep" 258, Term.string "SaturdayKeep" 273, Term.string "SaturdayKeep" 290, Term.string "SaturdayKeep" 295, Term.string "SaturdayKeepModel" 175, Term.string "SaturdayKeepModel" 177, Term.string "SaturdayKeepModel" 179, Term.string "SaturdayKeepModel" 181, Term.string "SaturdayKeepModel" 183].getD i (.int 0)
def bsS : List Nat := [526, 537, 547, 557, 568, 578, 590, 602, 612, 621, 631, 639, 650, 659, 669, 677, 686, 695, 704, 786, 807, 820, 832, 843]
set_option maxRecDepth 100000 in
set_option maxHeartbeats 4000000 in
theorem nw_str : ∀ i, i < 24 → nwF[bsS.getD i 0]? = some (.exactly (tmS i) "java/lang/String") ∧ nwF[bsS.getD i 0 + 1]? = some (.eq (.field (tmS i) "java/lang/String" "coder" "B") (.int 0)) ∧ nwF[bsS.getD i 0 + 2]? = some (.arrayOf (.field (tmS i) "java/lang/String" "value" "[B") .byte) ∧ nwF[bsS.getD i 0 + 3]? = some (.eq (.length (.field (tmS i) "java/lang/String" "value" "[B")) (.int (Int32.ofNat (stLen.getD i 0)))) ∧ ∀ j, j < stLen.getD i 0 → nwF[bsS.getD i 0 + 4 + j]? = some (.eq (.elem (.field (tmS i) "java/lang/String" "value" "[B") (.int (Int32.ofNat j))) (.int ((stByt.getD i []).getD j 0))) := by decide +kernel
theorem st_dist : ∀ i, i < 24 → ∀ j, j < 24 → Int32.ofNat (stLen.getD i 0) = Int32.ofNat (stLen.getD j 0) → (∀ x, x < stLen.getD i 0 → (stByt.getD i []).getD x 0 = (stByt.getD j []).getD x 0) → i = j := by decide +kernel
theorem st_len : ∀ i, i < 24 → stLen.getD i 0 < 2 ^ 31 := by decide +kernel
theorem st_leq : ∀ i, i < 24 → ∀ j, j < 24 → Int32.ofNat (stLen.getD i 0) = Int32.ofNat (stLen.getD j 0) → stLen.getD i 0 = stLen.getD j 0 := by decide +kernel
section
variable {args : Array Value} {s : State} {A : Nat → Prop}
def stOne (A : Nat → Prop) (args : Array Value) (s : State) (i a v : Nat) : Prop := (tmS i).eval args s none [] s = some (.ref a) ∧ va_O "java/lang/String" a A s s.heap ∧ va_OF "java/lang/String" "coder" "B" (.int 0) a A s s.heap ∧ va_OF "java/lang/String" "value" "[B" (.ref v) a A s s.heap ∧ va_T .byte v (stLen.getD i 0) (fun j => .int ((stByt.getD i []).getD j 0)) A s s.heap
theorem st_one (hn : ∀ (i : Nat) {w : Cond}, nwF[i]? = some w → w.before args s = true) (hA : ∀ a : Nat, a < s.heap.size → ¬ A a) (i : Nat) (hi : i < 24) : ∃ q : Nat × Nat, stOne A args s i q.1 q.2 := by
  obtain ⟨h1, h2, h3, h4, h5⟩ := nw_str i hi
  obtain ⟨aK, aV, h, ht⟩ := vk_Sof (args := args) (s := s) (N := 1) (tm := fun _ => tmS i) (len := [stLen.getD i 0]) (byt := [stByt.getD i []]) (A := A) (fun j hj => by obtain rfl : j = 0 := (by omega); exact st_len i hi) (fun _ _ => hn _ h1) (fun _ _ => hn _ h2) (fun _ _ => hn _ h3) (fun j hj => by obtain rfl : j = 0 := (by omega); exact hn _ h4) (fun j hj x hx => by obtain rfl : j = 0 := (by omega); exact hn _ (h5 x hx)) (fun a b ha hb hab => absurd (show a = b by omega) hab) hA
  exact ⟨(aK 0, aV 0), ht 0 (by decide), h.1 0 (by decide)⟩
theorem OF_fun {a b c : String} {v w : Value} {t : Nat} {U : State} {H : Heap} (h : va_OF a b c v t A U H) (g : va_OF a b c w t A U H) : v = w := by
  obtain ⟨cf, kk, i, f, cell, h1, h2, h3, h4, h5, -⟩ := h
  obtain ⟨cf', kk', i', f', cell', g1, g2, g3, g4, g5, -⟩ := g
  cases h1.symm.trans g1
  cases h3.symm.trans g3
  exact Option.some.inj (h5.symm.trans g5)
theorem st_inj {i j a b v w : Nat} (hi : i < 24) (hj : j < 24) (h : stOne A args s i a v) (g : stOne A args s j b w) (e : a = b) : i = j := by
  subst e
  obtain ⟨-, -, -, h4, h5⟩ := h
  obtain ⟨-, -, -, g4, g5⟩ := g
  cases OF_fun h4 g4
  obtain ⟨cell, c1, -, -, -, c5, c6, -⟩ := h5
  obtain ⟨cell', d1, -, -, -, d5, d6, -⟩ := g5
  cases c1.symm.trans d1
  have e5 := c5.symm.trans d5
  have e6 := st_leq i hi j hj e5
  refine st_dist i hi j hj e5 (fun x hx => ?_)
  have h7 := c6 x hx
  have h8 := d6 x (e6 ▸ hx)
  injection (Option.some.inj (h7.symm.trans h8))
theorem nI_lit (n : Nat) : nI n = Int32.ofNat n := rfl
end
/-- 'all over the array: its place is at most 6': it has at most 7 places -/
theorem VS_size {args : Array Value} {s : State} {tm : Term} {a : Nat} {cell : Cell} {n : Int32} (h : (Cond.all tm (.le (.index 0) (.int 6))).before args s = true) (hl : (Term.length tm).eval args s none [] s = some (.int n)) (ht : tm.eval args s none [] s = some (.ref a)) (hc : s.heap[a]? = some cell) (hge : 7 ≤ cell.slots.size) : cell.slots.size = 7 := by
  obtain ⟨b, cell2, h1, hat, -⟩ := Term.length_spec hl
  cases (Option.some.inj (ht.symm.trans h1))
  cases (hc.symm.trans (State.arrayAt?_spec hat).1)
  have h2 := Cond.all_elim ht hat (by simpa [Cond.before, Cond.holds] using h)
  refine Nat.le_antisymm (Nat.not_lt.mp fun h3 => ?_) hge
  have h4 := h2 7 h3
  rw [Cond.le_ints (x := Nat.toInt32 7) (y := 6) (by simp [Term.eval]) (by simp [Term.eval])] at h4
  exact absurd h4 (by decide)
set_option maxRecDepth 100000 in
set_option maxHeartbeats 4000000 in
theorem zStart {args : Array Value} {s : State} (hq : ∀ w ∈ lw_tbl, w.before args s = true) (hg : (Jvm.Cond.and given_1 narrow_1).before args s = true) : ∃ (D : va_G) (k : Nat → ClassId) (adK adV : Nat → Nat) (e0 mi : Nat) (aF : Nat → Nat) (vq : Nat), zZZ D k adK adV e0 mi aF vq (fun q => s.heap.size ≤ q) s s.heap := by
  have hts : ∀ w ∈ lw_all, w.before args s = true := fun w h => hq w (lw_all_tbl h)
  have hn : ∀ (i : Nat) {w : Cond}, nwF[i]? = some w → w.before args s = true := fun i _ hw => nw_all hg i hw
  generalize hAe : (fun q : Nat => s.heap.size ≤ q) = A
  have hA : ∀ a : Nat, a < s.heap.size → ¬ A a := fun a h => by rw [← hAe]; exact Nat.not_le.mpr h
  obtain ⟨c0, i0, u0⟩ := u_known (C := RX6) (T := TX6) (N := 22) hts in_X6 (hts _ q1897)
  obtain ⟨c1, i1, u1⟩ := u_known (C := RX1) (T := TX1) (N := 10) hts in_X1 (hts _ q149)
  obtain ⟨c2, i2, u2⟩ := u_known (C := RX2) (T := TX2) (N := 21) hts in_X2 (hts _ q157)
  obtain ⟨c3, i3, u3⟩ := u_known (C := RX3) (T := TX3) (N := 7) hts in_X3 (hts _ q255)
  obtain ⟨c4, i4, u4⟩ := u_known (C := RX4) (T := TX4) (N := 9) hts in_X4 (hts _ q288)
  obtain ⟨c5, i5, u5⟩ := u_known (C := RX5) (T := TX5) (N := 2) hts in_X5 (hts _ q357)
  obtain ⟨c6, i6, u6⟩ := u_known (C := RX7) (T := TX7) (N := 6) hts in_X7 (hts _ q1118)
  obtain ⟨c7, i7, u7⟩ := u_known (C := RX8) (T := TX8) (N := 1) hts in_X8 (hts _ q1308)
  obtain ⟨c8, i8, u8⟩ := u_known (C := RX9) (T := TX9) (N := 3) hts in_X9 (hts _ q1326)
  obtain ⟨c9, i9, u9⟩ := u_known (C := RX10) (T := TX10) (N := 2) hts in_X10 (hts _ q1333)
  obtain ⟨c10, i10, u10⟩ := u_known (C := RX11) (T := TX11) (N := 1) hts in_X11 (hts _ q1366)
  obtain ⟨c11, i11, u11⟩ := u_known (C := RX12) (T := TX12) (N := 1) hts in_X12 (hts _ q1376)
  obtain ⟨c12, i12, u12⟩ := u_known (C := RX13) (T := TX13) (N := 1) hts in_X13 (hts _ q1391)
  obtain ⟨c13, i13, u13⟩ := u_known (C := RX14) (T := TX14) (N := 2) hts in_X14 (hts _ q1412)
  obtain ⟨c14, i14, u14⟩ := u_known (C := RX16) (T := TX16) (N := 2) hts in_X16 (hts _ q1497)
  obtain ⟨c15, i15, u15⟩ := u_known (C := RJ2) (T := TJ2) (N := 3) hts in_J2 (hts _ q331)
  obtain ⟨c16, i16, u16⟩ := u_known (C := RJ4) (T := TJ4) (N := 4) hts in_J4 (hts _ q789)
  obtain ⟨c17, i17, u17⟩ := u_known (C := RJ5) (T := TJ5) (N := 4) hts in_J5 (hts _ q911)
  obtain ⟨k0, kA0, co0, f0, g0, m0⟩ := Cond.arrayClass_spec (type := .int) (hts _ q252)
  obtain ⟨k1, kA1, co1, f1, g1, m1⟩ := Cond.arrayClass_spec (type := .boolean) (hts _ q253)
  obtain ⟨k2, kA2, co2, f2, g2, m2⟩ := Cond.arrayClass_spec (type := .byte) (hts _ q286)
  obtain ⟨k3, kA3, co3, f3, g3, m3⟩ := Cond.arrayClass_spec (type := .long) (hts _ q2491)
  obtain ⟨co4, k4, kA4, e4, -, g4, m4, f4⟩ := Cond.arrayOver_spec (n := "java/lang/Object") (hq _ q1492)
  obtain ⟨co5, k5, kA5, e5, -, g5, m5, f5⟩ := Cond.arrayOver_spec (n := "SaturdayKeep$Fact") (hq _ q1436)
  obtain ⟨D, hD⟩ : ∃ D : va_G, ∀ (c : Nat) (q : vw_C), zCl[c]? = some q → u_Kn s q.1 q.2.1 q.2.2 (D.1 c) (D.2 c) := by
    refine ⟨(fun n => match n with | 0 => c0 | 1 => c1 | 2 => c2 | 3 => c3 | 4 => c4 | 5 => c5 | 6 => c6 | 7 => c7 | 8 => c8 | 9 => c9 | 10 => c10 | 11 => c11 | 12 => c12 | 13 => c13 | 14 => c14 | 15 => c15 | 16 => c16 | 17 => c17 | _ => c0, fun n => match n with | 0 => i0 | 1 => i1 | 2 => i2 | 3 => i3 | 4 => i4 | 5 => i5 | 6 => i6 | 7 => i7 | 8 => i8 | 9 => i9 | 10 => i10 | 11 => i11 | 12 => i12 | 13 => i13 | 14 => i14 | 15 => i15 | 16 => i16 | 17 => i17 | _ => i0), fun c q h => ?_⟩
    match c, h with
    | 0, h => cases h; exact u0
    | 1, h => cases h; exact u1
    | 2, h => cases h; exact u2
    | 3, h => cases h; exact u3
    | 4, h => cases h; exact u4
    | 5, h => cases h; exact u5
    | 6, h => cases h; exact u6
    | 7, h => cases h; exact u7
    | 8, h => cases h; exact u8
    | 9, h => cases h; exact u9
    | 10, h => cases h; exact u10
    | 11, h => cases h; exact u11
    | 12, h => cases h; exact u12
    | 13, h => cases h; exact u13
    | 14, h => cases h; exact u14
    | 15, h => cases h; exact u15
    | 16, h => cases h; exact u16
    | 17, h => cases h; exact u17
    | c + 18, h => exact nomatch h
  obtain ⟨k, hk0, hk1, hk2, hk3, hk4, hk5⟩ : ∃ k : Nat → ClassId, k 0 = k0 ∧ k 1 = k1 ∧ k 2 = k2 ∧ k 3 = k3 ∧ k 4 = k4 ∧ k 5 = k5 := ⟨fun n => match n with | 0 => k0 | 1 => k1 | 2 => k2 | 3 => k3 | 4 => k4 | 5 => k5 | _ => k0, rfl, rfl, rfl, rfl, rfl, rfl⟩
  have hK : va_K D zCl (zTy6 k) s := by
    refine ⟨hD, fun c q h => ?_⟩
    match c, h with
    | 0, h => cases h; rw [hk0]; exact ⟨fun n z => ⟨fun q h => (by cases h), kA0, g0, co0, m0⟩, f0⟩
    | 1, h => cases h; rw [hk1]; exact ⟨fun n z => ⟨fun q h => (by cases h), kA1, g1, co1, m1⟩, f1⟩
    | 2, h => cases h; rw [hk2]; exact ⟨fun n z => ⟨fun q h => (by cases h), kA2, g2, co2, m2⟩, f2⟩
    | 3, h => cases h; rw [hk3]; exact ⟨fun n z => ⟨fun q h => (by cases h), kA3, g3, co3, m3⟩, f3⟩
    | 4, h => cases h; rw [hk4]; exact ⟨fun n z => ⟨fun q h => (by cases h), kA4, g4, co4, m4⟩, kA4, co4, g4, m4, e4, f4⟩
    | 5, h => cases h; rw [hk5]; exact ⟨fun n z => ⟨fun q h => (by cases h), kA5, g5, co5, m5⟩, kA5, co5, g5, m5, e5, f5⟩
    | c + 6, h => exact nomatch h
  have hN : ∀ w ∈ zN, va_Nw w s := fun w hw => by
    have h1 := hq w (List.mem_filter.mp hw).1
    have h2 := (List.mem_filter.mp hw).2
    cases w <;> first | exact va_Nw.of rfl h1 | exact nomatch h2
  obtain ⟨fS, hfS⟩ := Classical.axiomOfChoice (show ∀ i : Nat, ∃ q : Nat × Nat, i < 24 → stOne A args s i q.1 q.2 from fun i => by
    by_cases hi : i < 24
    · obtain ⟨q, h⟩ := st_one hn hA i hi
      exact ⟨q, fun _ => h⟩
    · exact ⟨(0, 0), fun h => absurd h hi⟩)
  have hS : vk_S stN stLen stByt (fun i => (fS i).1) (fun i => (fS i).2) A s s.heap := ⟨fun i hi => (hfS i hi).2, fun i j hi hj e => st_inj hi hj (hfS i hi) (hfS j hj) e⟩
  generalize hadK : (fun i => (fS i).1) = adK at hS
  generalize (fun i => (fS i).2) = adV at hS
  have ht : ∀ i, i < 24 → (tmS i).eval args s none [] s = some (.ref (adK i)) := fun i hi => by rw [← hadK]; exact (hfS i hi).1
  have t0 : (Term.string "SaturdayKeep" 135).eval args s none [] s = some (.ref (adK 0)) := ht 0 (by decide)
  have t1 : (Term.string "SaturdayKeep" 137).eval args s none [] s = some (.ref (adK 1)) := ht 1 (by decide)
  have t2 : (Term.string "SaturdayKeep" 139).eval args s none [] s = some (.ref (adK 2)) := ht 2 (by decide)
  have t3 : (Term.string "SaturdayKeep" 141).eval args s none [] s = some (.ref (adK 3)) := ht 3 (by decide)
  have t4 : (Term.string "SaturdayKeep" 143).eval args s none [] s = some (.ref (adK 4)) := ht 4 (by decide)
  have t5 : (Term.string "SaturdayKeep" 145).eval args s none [] s = some (.ref (adK 5)) := ht 5 (by decide)
  have t6 : (Term.string "SaturdayKeep" 147).eval args s none [] s = some (.ref (adK 6)) := ht 6 (by decide)
  have t7 : (Term.string "SaturdayKeep" 149).eval args s none [] s = some (.ref (adK 7)) := ht 7 (by decide)
  have t8 : (Term.string "SaturdayKeep" 151).eval args s none [] s = some (.ref (adK 8)) := ht 8 (by decide)
  have t9 : (Term.string "SaturdayKeep" 99).eval args s none [] s = some (.ref (adK 9)) := ht 9 (by decide)
  have t10 : (Term.string "SaturdayKeep" 107).eval args s none [] s = some (.ref (adK 10)) := ht 10 (by decide)
  have t11 : (Term.string "SaturdayKeep" 112).eval args s none [] s = some (.ref (adK 11)) := ht 11 (by decide)
  have t12 : (Term.string "SaturdayKeep" 121).eval args s none [] s = some (.ref (adK 12)) := ht 12 (by decide)
  have t13 : (Term.string "SaturdayKeep" 297).eval args s none [] s = some (.ref (adK 13)) := ht 13 (by decide)
  have t14 : (Term.string "SaturdayKeep" 301).eval args s none [] s = some (.ref (adK 14)) := ht 14 (by decide)
  have t15 : (Term.string "SaturdayKeep" 258).eval args s none [] s = some (.ref (adK 15)) := ht 15 (by decide)
  have t16 : (Term.string "SaturdayKeep" 273).eval args s none [] s = some (.ref (adK 16)) := ht 16 (by decide)
  have t17 : (Term.string "SaturdayKeep" 290).eval args s none [] s = some (.ref (adK 17)) := ht 17 (by decide)
  have t18 : (Term.string "SaturdayKeep" 295).eval args s none [] s = some (.ref (adK 18)) := ht 18 (by decide)
  have t19 : (Term.string "SaturdayKeepModel" 175).eval args s none [] s = some (.ref (adK 19)) := ht 19 (by decide)
  have t20 : (Term.string "SaturdayKeepModel" 177).eval args s none [] s = some (.ref (adK 20)) := ht 20 (by decide)
  have t21 : (Term.string "SaturdayKeepModel" 179).eval args s none [] s = some (.ref (adK 21)) := ht 21 (by decide)
  have t22 : (Term.string "SaturdayKeepModel" 181).eval args s none [] s = some (.ref (adK 22)) := ht 22 (by decide)
  have t23 : (Term.string "SaturdayKeepModel" 183).eval args s none [] s = some (.ref (adK 23)) := ht 23 (by decide)
  have hR : ∀ q ∈ stRefs, vk_R q.1 q.2.1 q.2.2.1 (adK q.2.2.2) s := by
    unfold stRefs
    exact List.forall_mem_cons.mpr ⟨vk_R.of (hq _ q1202) t0, List.forall_mem_cons.mpr ⟨vk_R.of (hq _ q1211) t1, List.forall_mem_cons.mpr ⟨vk_R.of (hq _ q1212) t2, List.forall_mem_cons.mpr ⟨vk_R.of (hq _ q1213) t3, List.forall_mem_cons.mpr ⟨vk_R.of (hq _ q1214) t4, List.forall_mem_cons.mpr ⟨vk_R.of (hq _ q1215) t5, List.forall_mem_cons.mpr ⟨vk_R.of (hq _ q1216) t6, List.forall_mem_cons.mpr ⟨vk_R.of (hq _ q1217) t7, List.forall_mem_cons.mpr ⟨vk_R.of (hq _ q1218) t8, List.forall_mem_cons.mpr ⟨vk_R.of (hq _ q1223) t9, List.forall_mem_cons.mpr ⟨vk_R.of (hq _ q1241) t10, List.forall_mem_cons.mpr ⟨vk_R.of (hq _ q1242) t11, List.forall_mem_cons.mpr ⟨vk_R.of (hq _ q1249) t12, List.forall_mem_cons.mpr ⟨vk_R.of (hq _ q1324) t13, List.forall_mem_cons.mpr ⟨vk_R.of (hq _ q1327) t14, List.forall_mem_cons.mpr ⟨vk_R.of (hq _ q1364) t15, List.forall_mem_cons.mpr ⟨vk_R.of (hq _ q1385) t16, List.forall_mem_cons.mpr ⟨vk_R.of (hq _ q1509) t17, List.forall_mem_cons.mpr ⟨vk_R.of (hq _ q1510) t18, List.forall_mem_cons.mpr ⟨vk_R.of (hq _ q2016) (va_eqR (hn 723 rfl) t11), List.forall_mem_cons.mpr ⟨vk_R.of (hq _ q2033) (va_eqR (hn 734 rfl) t13), List.forall_mem_cons.mpr ⟨vk_R.of (hq _ q2042) (va_eqR (hn 743 rfl) t14), List.forall_mem_cons.mpr ⟨vk_R.of (hq _ q2055) (va_eqR (hn 753 rfl) t15), List.forall_mem_cons.mpr ⟨vk_R.of (hq _ q2064) (va_eqR (hn 763 rfl) t12), List.forall_mem_cons.mpr ⟨vk_R.of (hq _ q2065) (va_eqR (hn 773 rfl) t16), List.forall_mem_cons.mpr ⟨vk_R.of (hq _ q2074) (va_eqR (hn 785 rfl) t0), List.forall_mem_cons.mpr ⟨vk_R.of (hq _ q2075) t19, List.forall_mem_cons.mpr ⟨vk_R.of (hq _ q2076) (va_eqR (hn 806 rfl) t9), List.forall_mem_cons.mpr ⟨vk_R.of (hq _ q2077) t20, List.forall_mem_cons.mpr ⟨vk_R.of (hq _ q2078) t21, List.forall_mem_cons.mpr ⟨vk_R.of (hq _ q2079) t22, List.forall_mem_cons.mpr ⟨vk_R.of (hq _ q2080) t23, List.forall_mem_cons.mpr ⟨vk_R.of (hq _ q2081) (va_eqR (hn 862 rfl) t17), List.forall_mem_cons.mpr ⟨vk_R.of (hq _ q2082) (va_eqR (hn 871 rfl) t18), List.forall_mem_cons.mpr ⟨vk_R.of (hq _ q2095) (va_eqR (hn 880 rfl) t10), List.forall_mem_cons.mpr ⟨vk_R.of (hq _ q2100) (va_eqR (hn 891 rfl) t1), List.forall_mem_cons.mpr ⟨vk_R.of (hq _ q2105) (va_eqR (hn 902 rfl) t2), List.forall_mem_cons.mpr ⟨vk_R.of (hq _ q2110) (va_eqR (hn 914 rfl) t3), List.forall_mem_cons.mpr ⟨vk_R.of (hq _ q2111) (va_eqR (hn 925 rfl) t4), List.forall_mem_cons.mpr ⟨vk_R.of (hq _ q2112) (va_eqR (hn 938 rfl) t5), List.forall_mem_cons.mpr ⟨vk_R.of (hq _ q2113) (va_eqR (hn 951 rfl) t6), List.forall_mem_cons.mpr ⟨vk_R.of (hq _ q2114) (va_eqR (hn 962 rfl) t7), List.forall_mem_cons.mpr ⟨vk_R.of (hq _ q2115) (va_eqR (hn 972 rfl) t8), List.forall_mem_cons.mpr ⟨vk_R.of (hq _ q2550) (va_eqR (hn 984 rfl) t0), List.forall_mem_cons.mpr ⟨vk_R.of (hq _ q2551) (va_eqR (hn 996 rfl) t19), List.forall_mem_cons.mpr ⟨vk_R.of (hq _ q2552) (va_eqR (hn 1007 rfl) t9), List.forall_mem_cons.mpr ⟨vk_R.of (hq _ q2553) (va_eqR (hn 1022 rfl) t20), List.forall_mem_cons.mpr ⟨vk_R.of (hq _ q2554) (va_eqR (hn 1035 rfl) t21), List.forall_mem_cons.mpr ⟨vk_R.of (hq _ q2555) (va_eqR (hn 1047 rfl) t22), List.forall_mem_cons.mpr ⟨vk_R.of (hq _ q2556) (va_eqR (hn 1058 rfl) t23), fun _ h => absurd h List.not_mem_nil⟩⟩⟩⟩⟩⟩⟩⟩⟩⟩⟩⟩⟩⟩⟩⟩⟩⟩⟩⟩⟩⟩⟩⟩⟩⟩⟩⟩⟩⟩⟩⟩⟩⟩⟩⟩⟩⟩⟩⟩⟩⟩⟩⟩⟩⟩⟩⟩⟩⟩
  obtain ⟨e0, he0, hT0⟩ := va_Tof (tm := .static "java/util/ArrayList" "DEFAULTCAPACITY_EMPTY_ELEMENTDATA" "[Ljava/lang/Object;") (ty := .object "java/lang/Object") (N := 0) (f := fun _ => .null) (A := A) (by decide) (hn 3 rfl) (va_eqv (hn 5 rfl) rfl) (fun j hj => absurd hj (Nat.not_lt_zero j)) hA
  obtain ⟨mi, hmi⟩ := va_Mi.of (C := "[Ljava/lang/Object;") (hn 485 rfl)
  obtain ⟨a0, _, _, _, x0, -⟩ := Cond.exactly_spec (hn 232 rfl)
  obtain ⟨a1, _, _, _, x1, -⟩ := Cond.exactly_spec (hn 235 rfl)
  obtain ⟨a2, _, _, _, x2, -⟩ := Cond.exactly_spec (hn 239 rfl)
  obtain ⟨a3, _, _, _, x3, -⟩ := Cond.exactly_spec (hn 244 rfl)
  obtain ⟨a4, _, _, _, x4, -⟩ := Cond.exactly_spec (hn 250 rfl)
  obtain ⟨a5, _, _, _, x5, -⟩ := Cond.exactly_spec (hn 257 rfl)
  obtain ⟨a6, _, _, _, x6, -⟩ := Cond.exactly_spec (hn 265 rfl)
  obtain ⟨aF, ha0, ha1, ha2, ha3, ha4, ha5, ha6⟩ : ∃ aF : Nat → Nat, aF 0 = a0 ∧ aF 1 = a1 ∧ aF 2 = a2 ∧ aF 3 = a3 ∧ aF 4 = a4 ∧ aF 5 = a5 ∧ aF 6 = a6 := ⟨fun n => match n with | 0 => a0 | 1 => a1 | 2 => a2 | 3 => a3 | 4 => a4 | 5 => a5 | 6 => a6 | _ => a0, rfl, rfl, rfl, rfl, rfl, rfl, rfl⟩
  have hFa : ∀ i, i < 7 → va_O "SaturdayKeep$Fact" (aF i) A s s.heap ∧ va_OF "java/lang/Enum" "ordinal" "I" (.int (nI i)) (aF i) A s s.heap := fun i hi => by
    match i, hi with
    | 0, _ => rw [ha0]; exact ⟨va_Oof (hn 232 rfl) x0 hA, vk_OFof x0 (va_eqv (hn 233 rfl) rfl) hA⟩
    | 1, _ => rw [ha1]; exact ⟨va_Oof (hn 235 rfl) x1 hA, vk_OFof x1 (va_eqv (hn 236 rfl) rfl) hA⟩
    | 2, _ => rw [ha2]; exact ⟨va_Oof (hn 239 rfl) x2 hA, vk_OFof x2 (va_eqv (hn 240 rfl) rfl) hA⟩
    | 3, _ => rw [ha3]; exact ⟨va_Oof (hn 244 rfl) x3 hA, vk_OFof x3 (va_eqv (hn 245 rfl) rfl) hA⟩
    | 4, _ => rw [ha4]; exact ⟨va_Oof (hn 250 rfl) x4 hA, vk_OFof x4 (va_eqv (hn 251 rfl) rfl) hA⟩
    | 5, _ => rw [ha5]; exact ⟨va_Oof (hn 257 rfl) x5 hA, vk_OFof x5 (va_eqv (hn 258 rfl) rfl) hA⟩
    | 6, _ => rw [ha6]; exact ⟨va_Oof (hn 265 rfl) x6 hA, vk_OFof x6 (va_eqv (hn 266 rfl) rfl) hA⟩
    | i + 7, h => omega
  have hto : ∀ i, i < 7 → va_OF "SaturdayKeep$Fact" "told" "Ljava/lang/String;" (.ref (adK (fcS i))) (aF i) A s s.heap := fun i hi => by
    match i, hi with
    | 0, _ => rw [ha0]; exact vk_OFof x0 (va_eqv (hn 234 rfl) (va_eqR (hn 984 rfl) t0)) hA
    | 1, _ => rw [ha1]; exact vk_OFof x1 (va_eqv (hn 237 rfl) (va_eqR (hn 996 rfl) t19)) hA
    | 2, _ => rw [ha2]; exact vk_OFof x2 (va_eqv (hn 241 rfl) (va_eqR (hn 1007 rfl) t9)) hA
    | 3, _ => rw [ha3]; exact vk_OFof x3 (va_eqv (hn 246 rfl) (va_eqR (hn 1022 rfl) t20)) hA
    | 4, _ => rw [ha4]; exact vk_OFof x4 (va_eqv (hn 252 rfl) (va_eqR (hn 1035 rfl) t21)) hA
    | 5, _ => rw [ha5]; exact vk_OFof x5 (va_eqv (hn 259 rfl) (va_eqR (hn 1047 rfl) t22)) hA
    | 6, _ => rw [ha6]; exact vk_OFof x6 (va_eqv (hn 267 rfl) (va_eqR (hn 1058 rfl) t23)) hA
    | i + 7, h => omega
  obtain ⟨vq, hvq, hTv⟩ := va_Tof (tm := .static "SaturdayKeep$Fact" "$VALUES" "[LSaturdayKeep$Fact;") (ty := .object "SaturdayKeep$Fact") (N := 7) (f := fun j => va_rf (fcA aF j)) (A := A) (by decide) (hn 222 rfl) (va_eqv (hn 223 rfl) rfl) (fun j hj => by
    match j, hj with
    | 0, _ => rw [show va_rf (fcA aF 0) = .ref a0 from congrArg Value.ref ha0]; exact va_eqv (hn 225 rfl) x0
    | 1, _ => rw [show va_rf (fcA aF 1) = .ref a1 from congrArg Value.ref ha1]; exact va_eqv (hn 226 rfl) x1
    | 2, _ => rw [show va_rf (fcA aF 2) = .ref a2 from congrArg Value.ref ha2]; exact va_eqv (hn 227 rfl) x2
    | 3, _ => rw [show va_rf (fcA aF 3) = .ref a3 from congrArg Value.ref ha3]; exact va_eqv (hn 228 rfl) x3
    | 4, _ => rw [show va_rf (fcA aF 4) = .ref a4 from congrArg Value.ref ha4]; exact va_eqv (hn 229 rfl) x4
    | 5, _ => rw [show va_rf (fcA aF 5) = .ref a5 from congrArg Value.ref ha5]; exact va_eqv (hn 230 rfl) x5
    | 6, _ => rw [show va_rf (fcA aF 6) = .ref a6 from congrArg Value.ref ha6]; exact va_eqv (hn 231 rfl) x6
    | j + 7, h => omega) hA
  have hVs : vaVs k aF vq A s s.heap := by
    obtain ⟨a, c, cell, kk, y1, y2, y3, y4, y5, y6, -⟩ := Cond.exactly_spec (hn 221 rfl)
    cases (Option.some.inj (hvq.symm.trans y1))
    obtain ⟨cell2, z1, z2, z3, z4, z5, z6, z7⟩ := hTv
    cases z1.symm.trans y3
    have hcc : c = k 5 := by rw [hk5]; exact Option.some.inj (y2.symm.trans f5)
    have hsz : cell.slots.size = 7 := VS_size (hn 224 rfl) (va_eqv (hn 223 rfl) rfl) hvq y3 z4
    refine ⟨cell, y3, y5, z3, y6.trans hcc, ?_, z7⟩
    apply Array.ext_getElem?
    intro j
    by_cases hj : j < 7
    · rw [z6 j hj, arrV_read _ _ hj]
    · rw [Array.getElem?_eq_none (by omega), Array.getElem?_eq_none (by rw [arrV_size]; omega)]
  have hTh1 := vx_Zqof (hq _ q969) (hts _ q126) (hn 11 rfl) hA
  have hTh2 := vx_Zqof (hq _ q971) (hts _ q126) (hn 12 rfl) hA
  have hCS : va_Z "java/lang/String" "COMPACT_STRINGS" "Z" (.int 1) A s s.heap := va_Zof (hq _ q798) (hts _ q119) (va_eqv (hn 6 rfl) rfl) hA
  have hSF : va_Zq "jdk/internal/util/Preconditions" "SIOOBE_FORMATTER" "Ljava/util/function/BiFunction;" A s s.heap := va_Zqof (hq _ q883) (hts _ q125) (hn 7 rfl) hA
  have hE0 : va_Z "java/util/ArrayList" "DEFAULTCAPACITY_EMPTY_ELEMENTDATA" "[Ljava/lang/Object;" (.ref e0) A s s.heap := va_Zof (hq _ q343) (hts _ q113) he0 hA
  have hVq : va_Z "SaturdayKeep$Fact" "$VALUES" "[LSaturdayKeep$Fact;" (.ref vq) A s s.heap := va_Zof (hq _ q1431) (hts _ q142) hvq hA
  have hwX10 : va_Fw RX10 yCond yX10_holds s := va_Fw.of (hq _ q492) (hq _ q491) (hq _ q532) (hq _ q530) (hq _ q528)
  have hwX11 : va_Fw RX11 yCond yX11_holds s := va_Fw.of (hq _ q492) (hq _ q491) (hq _ q524) (hq _ q522) (hq _ q520)
  have hwX12 : va_Fw RX12 yCond yX12_holds s := va_Fw.of (hq _ q492) (hq _ q491) (hq _ q543) (hq _ q541) (hq _ q539)
  have hwX16 : va_Fw RX16 yCond yX16_holds s := va_Fw.of (hq _ q492) (hq _ q491) (hq _ q497) (hq _ q495) (hq _ q493)
  exact ⟨D, k, adK, adV, e0, mi, aF, vq, hK, hN, ⟨hTh1, hTh2⟩, ⟨hS, hR, hCS, hSF⟩, ⟨va_AO.of (hq _ q1492), hE0, hT0, hmi⟩, hFa, ⟨hwX10, hwX11, hwX12, hwX16⟩, ⟨hVq, hVs, hto⟩, ⟨va_Nc.of (hn 285 rfl), va_Nc.of (hn 393 rfl), va_Nc.of (hn 380 rfl), va_Nc.of (hn 297 rfl)⟩, sel_priv (C := RJ4) ⟨by decide +kernel, by decide +kernel⟩ (hts _ q789) (hts _ q2493) (hq _ q827) (hts _ q828), sel_priv (C := RJ4) ⟨by decide +kernel, by decide +kernel⟩ (hts _ q789) (hts _ q2494) (hq _ q831) (hts _ q832)⟩
