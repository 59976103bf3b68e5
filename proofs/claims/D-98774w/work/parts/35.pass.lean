/-! Reader.passes -/
def wdN (s : Rd) : Nat := (rd_at_ s).toNatClampNeg - (rd_begin s).toNatClampNeg
def wdF (s : Rd) (j : Nat) : Int32 := rd_tape s ((rd_begin s).toNatClampNeg + j)
/-- whether the word that was passed is the i-th constant -/
def wdIs (s : Rd) (i : Nat) : Bool := eqS (wdN s) (wdF s) (stL i) (stC i)
theorem eqS_c {n n' m : Nat} {f g h : Nat → Int32} (e : n = n') (hf : ∀ j, j < n → f j = g j) : eqS n f m h = eqS n' g m h := by
  subst e
  unfold eqS
  congr 1
  apply propext
  constructor
  · intro q
    exact ⟨q.1, fun j hj => (hf j hj).symm.trans (q.2 j hj)⟩
  · intro q
    exact ⟨q.1, fun j hj => (hf j hj).trans (q.2 j hj)⟩
theorem wdIs_of {s : Rd} {b a i : Nat} {f : Nat → Int32} (h : wdP s b a) (hf : ∀ j, j < a - b → f j = rd_tape s (b + j)) : eqS (a - b) f (stL i) (stC i) = wdIs s i := by
  obtain ⟨h1, h2, h3, h4, -⟩ := h
  unfold wdIs
  have e1 : (rd_begin s).toNatClampNeg = b := by rw [h1]; exact nI_clamp (by omega)
  have e2 : (rd_at_ s).toNatClampNeg = a := by rw [h2]; exact nI_clamp (by omega)
  refine eqS_c (by unfold wdN; rw [e1, e2]) (fun j hj => ?_)
  unfold wdF
  rw [e1]
  exact hf j hj
theorem zneS {Z : zZ} {adK adV : Nat → Nat} (hStr : zStr Z adK adV) {A : Nat → Prop} {s : State} {H : Heap} (hz : Z A s H) {i q : Nat} (hi : i < stN) (hA : A q) : q ≠ adK i := by
  intro e
  obtain ⟨-, -, -, -, hn⟩ := ((hStr _ _ _ hz).1.1 i hi).1
  exact hn (e ▸ hA)
def psR (s1 : Rd) (i : Nat) : Rd := if wdIs s1 i = true then s1 else rd_s_at_ s1 (rd_begin s1)
def rX3_passes : Room := rLs 7 9 1600 340
theorem kX3_passes {R : Room} {s : State} {args : Array Value} {own : String} {idx mc ms : Nat} {rm : Room} (hts : ∀ w ∈ lw_all, w.before args s = true) (hl : Cond.methodLink own idx yX3_passes ∈ lw_all) (hrc : rm.cells = mc) (hrs : rm.slots = ms) (hR : rm.frames + 1 ≤ R.frames ∧ 8 + (2 + 11) + rm.locals ≤ R.locals) : CallW R s args own RX3 idx yX3_passes cX3_passes 2 (some .boolean) (ws_ yX3_passes cX3_passes 2 (some .boolean)) rm mc ms 1 :=
  cwV 1 hts (lw_V hl q1244 q1245 q109 q1246) rfl hrc hrs (by decide +kernel) hR
set_option maxRecDepth 100000 in
theorem mtX3_passes (l : Launch) (D : va_G) (k : Nat → ClassId) (ard : Nat → Nat) (Z : zZ) (hOK : zOK D zCl (zTys k) Z) {adK adV : Nat → Nat} (hStr : zStr Z adK adV) (hPv : zPv Z) (srd s1 : Rd) (hrun : fX3_word srd = some s1) (b a : Nat) (hwd : wdP s1 b a) (i : Nat) (hi : i < stN) : CtW l yX3_passes cX3_passes 2 (some .boolean) rX3_passes Z D zCl (cR k ard srd) [.ref (ard 0), .ref (adK i)] (fun r' w' => r' = some (.int (bz (wdIs s1 i))) ∧ w' = cR k ard (psR s1 i)) 9 1600 := by
  refine CtW.of (by decide) (Nat.le_of_ble_eq_true rfl) ?_
  intro p e9 s m args below meth c A hE hA hP hD hS hz ls hl
  obtain ⟨hx, hb, hr, hml, hown, hts, hlocks, hname⟩ := hE
  have hown : s.vm.findClass RX3 = some m.cls := hown
  have hK := hOK.1 _ _ _ hz
  have hN := hOK.2.1 _ _ _ hz
  have hl : lv_has ls 2 [(0, .ref (ard 0)), (1, .ref (adK i))] := hl
  refine lv_aload_n hx hb dX3_passes_0 rfl (lv_at hl 0 rfl) ?_
  refine cWV0 (As := []) (ci := 3) ⟨hx, hb, hml, hown, hts⟩ hOK hz hS hA hP hD (mtX3_word l D k ard Z hOK (fun A U H h => (hStr A U H h).2.2.1) hPv srd s1 hrun b a hwd) (kX3_word hts q1247 rfl rfl ⟨Nat.le_of_ble_eq_true rfl, Nat.le_of_ble_eq_true rfl⟩) 0 rfl rfl rfl hl.1 rfl (lv_room (Nat.le_of_ble_eq_true rfl)) ⟨(Nat.le_of_ble_eq_true rfl), (Nat.le_of_ble_eq_true rfl)⟩ dX3_passes_1 (fun r_ w_ H locs hq hP hD hS => ?_)
  obtain ⟨q, v1, f1, rfl, hF1, hf1, rfl⟩ := hq
  refine lv_aload_n hx hb dX3_passes_4 rfl (lv_at hl 1 rfl) ?_
  have hne := zneS hStr hz hi (show A q from hD.2 2 _ rfl)
  have hab : a - b < 2 ^ 31 := by have := hwd.2.2.2.1; omega
  refine cRV (As := [.ref (adK i)]) (ci := 17) ⟨hx, hb, hml, hown, hts⟩ hOK hz hS (hP.sub (ws' := (strC k q v1 (a - b) 0 false f1)) [2, 3] rfl) ((mtJ5_eqCS l D k Z hOK (fun A U H h => (hStr A U H h).2.2.1) (adK i) (adV i) (stL i) (stC i) (stN_l i hi) q v1 (a - b) f1 hab 0 false hne).mono (fun A U H h => ⟨h, (hStr A U H h).1.1 i hi⟩)) (kJ5_equals hts q1248 rfl rfl ⟨Nat.le_of_ble_eq_true rfl, Nat.le_of_ble_eq_true rfl⟩) 0 rfl rfl rfl hl.1 rfl (lv_room (Nat.le_of_ble_eq_true rfl)) ⟨(Nat.le_of_ble_eq_true rfl), (Nat.le_of_ble_eq_true rfl)⟩ dX3_passes_5 ?_
  rw [wdIs_of hwd hf1]
  have hP := zdropP (x := (cR k ard s1)) (y := (strC k q v1 (a - b) 0 false f1)) hP
  have hD := zdropD (x := (cR k ard s1)) (y := (strC k q v1 (a - b) 0 false f1)) hD
  cases hv : wdIs s1 i with
  | true =>
    refine lv_if_eq (tgt := 13) hx hb dX3_passes_8 (by decide) (fun c1 => absurd c1 (by decide)) (fun _ => ?_)
    refine lv_iconst (v := bz true) hx hb dX3_passes_11 (by decide) ?_
    refine W.widen (k := 9) (n := 1600) (Nat.le_of_ble_eq_true rfl) (Nat.le_of_ble_eq_true rfl) ?_
    exact retW_z hx hb hr hlocks hP hD hS ⟨rfl, (by rw [psR, if_pos hv])⟩ dX3_passes_12
  | false =>
    refine lv_if_eq (tgt := 13) hx hb dX3_passes_8 (by decide) (fun _ => ?_) (fun c1 => absurd rfl c1)
    refine lv_aload_n hx hb dX3_passes_13 rfl (lv_at hl 0 rfl) ?_
    refine lv_aload_n hx hb dX3_passes_14 rfl (lv_at hl 0 rfl) ?_
    refine va_get (ci := 3) (v := .int (rd_begin s1)) (C := RX3) (T := TX3) (N := 7) hx hb hts in_X3 hown hK hP 0 rfl rfl 4 (by decide) (hts _ q266) (fun _ h9 => h9) rfl dX3_passes_15 ?_
    refine va_put (ci := 3) (v := .int (rd_begin s1)) (ty := tyX3 3) (C := RX3) (T := TX3) (N := 7) hx hb hts in_X3 tyX3 tyX3_ok nmX3 hown hK hP hD hS 0 rfl rfl 3 (by decide) (hts _ q265) (fun _ h9 => h9) rfl (tyX3_ok 3 (by decide)) rfl rfl (Nat.le_of_ble_eq_true rfl) dX3_passes_18 (fun H locs hP hD hS => ?_)
    have hP : va_P D zCl (cR k ard (rd_s_at_ s1 (rd_begin s1))) _ := hP
    have hD : va_D A (cR k ard (rd_s_at_ s1 (rd_begin s1))) := hD
    refine lv_iconst (v := bz false) hx hb dX3_passes_21 (by decide) ?_
    refine W.widen (k := 9) (n := 1600) (Nat.le_of_ble_eq_true rfl) (Nat.le_of_ble_eq_true rfl) ?_
    exact retW_z hx hb hr hlocks hP hD hS ⟨rfl, (by rw [psR, if_neg (by rw [hv]; decide)])⟩ dX3_passes_22
theorem zWr {D : va_G} {k : Nat → ClassId} {s : State} {H : Heap} {ws : va_W} {q : Nat} (hK : va_K D zCl (zTys k) s) (hP : va_P D zCl ws H) (i : Nat) (he : ws[i]? = some (wrC q)) : ∃ ce : Cell, H[q]? = some ce ∧ ce.vm = .none ∧ s.vm.findClass "SaturdayKeep$Wrong" = some ce.cls := by
  obtain ⟨r, h1, cell, q1, q2, q3, -⟩ := hP i _ he
  cases h1
  exact ⟨cell, q1, q3, by rw [q2]; exact (hK.1 6 _ rfl).2.1⟩
set_option maxRecDepth 100000 in
theorem mtX3_wrongR (l : Launch) (D : va_G) (k : Nat → ClassId) (Z : zZ) (hOK : zOK D zCl (zTys k) Z) (hTh : zTh Z) (ard : Nat → Nat) (srd : Rd) : CtW l yX3_wrong cX3_wrong 1 (some (.object "SaturdayKeep$Wrong")) rX3_wrong Z D zCl (cR k ard srd) [.ref (ard 0)] (fun r' w' => ∃ qw, r' = some (.ref qw) ∧ w' = (cR k ard srd ++ [wrC qw])) 1 6 := by
  refine CtW.of (by decide) (Nat.le_of_ble_eq_true rfl) ?_
  intro p e9 s m args below meth c A hE hA hP hD hS hz ls hl
  obtain ⟨hx, hb, hr, hml, hown, hts, hlocks, hname⟩ := hE
  have hown : s.vm.findClass RX3 = some m.cls := hown
  have hK := hOK.1 _ _ _ hz
  have hN := hOK.2.1 _ _ _ hz
  have hl : lv_has ls 1 [(0, .ref (ard 0))] := hl
  refine va_new (ci := 6) (fs := [.null, .null, .null, .null, .null, .int 0]) (C := RX7) (T := TX7) (N := 6) hx hb hts in_X7 tyX7 tyX7_ok hown (hts _ q1117) (hts _ q1118) (hts _ q132) hK hP hD hS hA rfl (zdef 6 tyX7) (Nat.le_of_ble_eq_true rfl) (Nat.le_of_ble_eq_true rfl) dX3_wrong_0 (fun qw H hP hD hS => ?_)
  refine lv_dup hx hb dX3_wrong_3 rfl ?_
  have hP : va_P D zCl ((cR k ard srd) ++ ([wrC qw] ++ [])) _ := hP
  have hD : va_D A ((cR k ard srd) ++ ([wrC qw] ++ [])) := hD
  refine cWI (cR k ard srd) [wrC qw] [] (As := []) ⟨hx, hb, hml, hown, hts⟩ hOK hz hS hA hP hD (mtX7_init l D k Z hOK hTh qw) (kX7_init hts q1126 rfl rfl ⟨Nat.le_of_ble_eq_true rfl, Nat.le_of_ble_eq_true rfl⟩) rfl hl.1 rfl (lv_room (Nat.le_of_ble_eq_true rfl)) ⟨(Nat.le_of_ble_eq_true rfl), (Nat.le_of_ble_eq_true rfl)⟩ dX3_wrong_4 (fun r_ w_ H locs hq hP hD hS => ?_)
  obtain ⟨rfl, rfl⟩ := hq
  have hP : va_P D zCl (cR k ard srd ++ [wrC qw]) _ := hP
  have hD : va_D A (cR k ard srd ++ [wrC qw]) := hD
  exact retW_a hx hb hr (Or.inl ⟨_, rfl⟩) hlocks hP hD hS ⟨qw, rfl, rfl⟩ dX3_wrong_7
