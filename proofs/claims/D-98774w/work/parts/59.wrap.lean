/-! THE LAW's WRAPPERS: an answer into out[0] and 0, or the number of what was thrown -/
def ouC (k : Nat → ClassId) (ao : Nat) (g : Nat → Int64) : Nat × va_E := (ao, .inl (k 3, 1, .inr (.inl g)))
def upO (g : Nat → Int64) (x : Int64) : Nat → Int64 := vp_updL g (Int32.toNatClampNeg (0 : Int32)) x
theorem set_last (a b : Nat × va_E) : ∀ w : va_W, (w ++ [a]).set w.length b = w ++ [b]
  | [] => rfl
  | x :: w => by
    show x :: ((w ++ [a]).set w.length b) = _
    rw [set_last a b w]
    rfl
theorem get_last (a : Nat × va_E) (w : va_W) : (w ++ [a])[w.length]? = some a := by
  rw [List.getElem?_append_right (Nat.le_refl _), Nat.sub_self]
  rfl
def bzL (b : Bool) : Int64 := if b = true then 1 else 0
def zNc (Z : zZ) : Prop := ∀ A U H, Z A U H → va_Nc eU eA U ∧ va_Nc eN eI U ∧ va_Nc eA eI U ∧ va_Nc eN eA U
def rW (rm : Room) (mL mc ms : Nat) : Room := { frames := rm.frames + 1, cells := mc, slots := ms, locals := 8 + (mL + 11) + rm.locals }
theorem out_in : vp_in (0 : Int32) 1 := show ¬ _ from by decide
abbrev hhX0_agree : List (Nat × Nat × Nat × Nat) := [(0, 9, 12, 13)]
theorem kX0_agree {R : Room} {s : State} {args : Array Value} {own : String} {idx mc ms : Nat} {rm : Room} (hts : ∀ w ∈ lw_all, w.before args s = true) (hl : Cond.methodLink own idx yX0_agree ∈ lw_all) (hrc : rm.cells = mc) (hrs : rm.slots = ms) (hR : rm.frames + 1 ≤ R.frames ∧ 8 + (4 + 11) + rm.locals ≤ R.locals) : vx_CSW R s args own idx yX0_agree cX0_agree 4 (some .int) hhX0_agree (wsW_ yX0_agree cX0_agree 4 (some .int) hhX0_agree) rm mc ms 3 :=
  vx_cwSW 3 hts (lw_SW hl q1840 q106 q1841) rfl hrc hrs (by decide +kernel) hR
set_option maxRecDepth 100000 in
theorem mtX0_agree (l : Launch) (D : va_G) (k : Nat → ClassId) (Z : zZ) (hOK : zOK D zCl (zTys k) Z) (hNc : zNc Z) (ws : va_W) (g : Nat → Int64) (ao h : Nat) (fs : List Value) (hws : ws[0]? = some (h, .inr (1, fs))) (p1 : Int32) {P : Option Value → va_W → Prop} {PX : String → va_W → Prop} {rm : Room} {mc ms : Nat} (hrc : rm.cells = mc) (hrs : rm.slots = ms) (hM : CtX l yX1_agree cX1_agree 4 (some .int) rm Z D zCl ws [.ref h, .int p1] P PX mc ms) (hv : ∀ r w, P r w → ∃ v : Int32, r = some (.int v)) (hcd : ∀ E w, PX E w → ¬ cdA E = nI 0) : CtXH l yX0_agree cX0_agree 4 (some .int) hhX0_agree (rW rm 4 mc ms) Z D zCl (ws ++ [ouC k ao g]) [.ref h, .int p1, .ref ao] (fun r' w' => (∃ (v : Int32) (w1 : va_W), P (some (.int v)) w1 ∧ r' = some (.int (nI 0)) ∧ w' = w1 ++ [ouC k ao (upO g v.toInt64)]) ∨ ∃ (E : String) (w1 : va_W), PX E w1 ∧ r' = some (.int (cdA E)) ∧ w' = w1 ++ [ouC k ao g]) (fun _ _ => False) mc ms := by
  refine CtXH.of (by decide) (Nat.le_of_ble_eq_true rfl) ?_
  intro p e9 s m args below meth c A hE htab hA hP hD hS hz ls hl
  obtain ⟨hx, hb, hr, hml, hown, hts, hlocks, hname⟩ := hE
  have hown : s.vm.findClass RX0 = some m.cls := hown
  have hK := hOK.1 _ _ _ hz
  have hN := hOK.2.1 _ _ _ hz
  have hl : lv_has ls 4 [(0, .ref h), (1, .int p1), (2, .ref ao)] := hl
  have hnc := hNc _ _ _ hz
  refine lv_aload_n hx hb dX0_agree_0 rfl (lv_at hl 2 rfl) ?_
  refine lv_iconst (v := (0 : Int32)) hx hb dX0_agree_1 (by decide) ?_
  refine lv_aload_n hx hb dX0_agree_2 rfl (lv_at hl 0 rfl) ?_
  refine lv_iload_n hx hb dX0_agree_3 rfl (lv_at hl 1 rfl) ?_
  have hP : va_P D zCl ([] ++ (ws ++ [ouC k ao g])) _ := hP
  have hD : va_D A ([] ++ (ws ++ [ouC k ao g])) := hD
  refine cXV [] ws [ouC k ao g] (As := [.int p1]) (ci := 1) ⟨hx, hb, hml, hown, hts⟩ hOK hz hS hA hP hD hM (kX1_agree hts q1842 hrc hrs ⟨(by show rm.frames + 1 ≤ rm.frames + 1; omega), (by show 8 + (4 + 11) + rm.locals ≤ 8 + (4 + 11) + rm.locals; omega)⟩) 0 hws rfl rfl hl.1 rfl (lv_room (Nat.le_of_ble_eq_true rfl)) ⟨(by show 0 + mc ≤ mc; omega), (by show 0 + ms ≤ ms; omega)⟩ dX0_agree_4 (fun E_ w_ ce_ q9_ H locs hq hP hD hS hce hcv hcl => ?_) (fun r_ w_ H locs hq hP hD hS => ?_)
  · have hcE := hcd _ _ hq
    have hP : va_P D zCl (w_ ++ [ouC k ao g]) _ := hP
    have hD : va_D A (w_ ++ [ouC k ao g]) := hD
    by_cases e0 : E_ = eA
    · subst e0
      refine vx_catch (own := RX0) (name := eA) hown [] ⟨0, 9, 12, 13⟩ [] (htab.trans rfl) (fun z hz9 => nomatch hz9) (by decide) (by decide) (hts _ q752) (va_Nw.use rfl (hN _ (zN_of q944 rfl))) hce hcv hcl ?_
      refine lv_astore_n (lv' := [(3, .ref q9_), (0, .ref h), (1, .int p1), (2, .ref ao)]) hx hb dX0_agree_12 rfl hl (by decide) rfl (fun ls hl => ?_)
      refine lv_iconst (v := (1 : Int32)) hx hb dX0_agree_13 (by decide) ?_
      refine widX (by omega) (by omega) ?_
      exact vx_ret (retW_i hx hb hr hlocks hP hD hS (Or.inr ⟨_, w_, hq, by rw [cdA_A, ← li1], rfl⟩) dX0_agree_14)
    exact absurd (by unfold cdA; rw [if_neg e0]) hcE
  have hP : va_P D zCl (w_ ++ [ouC k ao g]) _ := hP
  have hD : va_D A (w_ ++ [ouC k ao g]) := hD
  obtain ⟨v, rfl⟩ := hv _ _ hq
  refine lv_i2l (v := v.toInt64) hx hb dX0_agree_7 rfl ?_
  refine va_last hx hb hK hP hD hS w_.length 3 (get_last _ _) rfl out_in dX0_agree_8 (fun H locs hP hD hS => ?_)
  have hP : va_P D zCl ((w_ ++ [ouC k ao g]).set w_.length (ouC k ao (upO g v.toInt64))) _ := hP
  have hD : va_D A ((w_ ++ [ouC k ao g]).set w_.length (ouC k ao (upO g v.toInt64))) := hD
  rw [set_last] at hP hD
  refine lv_goto (tgt := 15) hx hb dX0_agree_9 (by decide) ?_
  refine lv_iconst (v := (0 : Int32)) hx hb dX0_agree_15 (by decide) ?_
  refine widX (by omega) (by omega) ?_
  exact vx_ret (retW_i hx hb hr hlocks hP hD hS (Or.inl ⟨v, w_, hq, by rw [← li0], rfl⟩) dX0_agree_16)
abbrev hhX0_ahead : List (Nat × Nat × Nat × Nat) := [(0, 12, 15, 24), (0, 12, 19, 13), (0, 12, 23, 26)]
theorem kX0_ahead {R : Room} {s : State} {args : Array Value} {own : String} {idx mc ms : Nat} {rm : Room} (hts : ∀ w ∈ lw_all, w.before args s = true) (hl : Cond.methodLink own idx yX0_ahead ∈ lw_all) (hrc : rm.cells = mc) (hrs : rm.slots = ms) (hR : rm.frames + 1 ≤ R.frames ∧ 8 + (6 + 11) + rm.locals ≤ R.locals) : vx_CSW R s args own idx yX0_ahead cX0_ahead 6 (some .int) hhX0_ahead (wsW_ yX0_ahead cX0_ahead 6 (some .int) hhX0_ahead) rm mc ms 5 :=
  vx_cwSW 5 hts (lw_SW hl q1722 q106 q1723) rfl hrc hrs (by decide +kernel) hR
set_option maxRecDepth 100000 in
theorem mtX0_ahead (l : Launch) (D : va_G) (k : Nat → ClassId) (Z : zZ) (hOK : zOK D zCl (zTys k) Z) (hNc : zNc Z) (ws : va_W) (g : Nat → Int64) (ao h : Nat) (fs : List Value) (hws : ws[0]? = some (h, .inr (1, fs))) (p1 : Int32) (p2 : Int32) (p3 : Int32) {P : Option Value → va_W → Prop} {PX : String → va_W → Prop} {rm : Room} {mc ms : Nat} (hrc : rm.cells = mc) (hrs : rm.slots = ms) (hM : CtX l yX1_ahead cX1_ahead 5 (some .int) rm Z D zCl ws [.ref h, .int p1, .int p2, .int p3] P PX mc ms) (hv : ∀ r w, P r w → ∃ v : Int32, r = some (.int v)) (hcd : ∀ E w, PX E w → ¬ cdIAN E = nI 0) : CtXH l yX0_ahead cX0_ahead 6 (some .int) hhX0_ahead (rW rm 5 mc ms) Z D zCl (ws ++ [ouC k ao g]) [.ref h, .int p1, .int p2, .int p3, .ref ao] (fun r' w' => (∃ (v : Int32) (w1 : va_W), P (some (.int v)) w1 ∧ r' = some (.int (nI 0)) ∧ w' = w1 ++ [ouC k ao (upO g v.toInt64)]) ∨ ∃ (E : String) (w1 : va_W), PX E w1 ∧ r' = some (.int (cdIAN E)) ∧ w' = w1 ++ [ouC k ao g]) (fun _ _ => False) mc ms := by
  refine CtXH.of (by decide) (Nat.le_of_ble_eq_true rfl) ?_
  intro p e9 s m args below meth c A hE htab hA hP hD hS hz ls hl
  obtain ⟨hx, hb, hr, hml, hown, hts, hlocks, hname⟩ := hE
  have hown : s.vm.findClass RX0 = some m.cls := hown
  have hK := hOK.1 _ _ _ hz
  have hN := hOK.2.1 _ _ _ hz
  have hl : lv_has ls 6 [(0, .ref h), (1, .int p1), (2, .int p2), (3, .int p3), (4, .ref ao)] := hl
  have hnc := hNc _ _ _ hz
  refine lv_aload hx hb dX0_ahead_0 (lv_at hl 4 rfl) ?_
  refine lv_iconst (v := (0 : Int32)) hx hb dX0_ahead_2 (by decide) ?_
  refine lv_aload_n hx hb dX0_ahead_3 rfl (lv_at hl 0 rfl) ?_
  refine lv_iload_n hx hb dX0_ahead_4 rfl (lv_at hl 1 rfl) ?_
  refine lv_iload_n hx hb dX0_ahead_5 rfl (lv_at hl 2 rfl) ?_
  refine lv_iload_n hx hb dX0_ahead_6 rfl (lv_at hl 3 rfl) ?_
  have hP : va_P D zCl ([] ++ (ws ++ [ouC k ao g])) _ := hP
  have hD : va_D A ([] ++ (ws ++ [ouC k ao g])) := hD
  refine cXV [] ws [ouC k ao g] (As := [.int p1, .int p2, .int p3]) (ci := 1) ⟨hx, hb, hml, hown, hts⟩ hOK hz hS hA hP hD hM (kX1_ahead hts q1724 hrc hrs ⟨(by show rm.frames + 1 ≤ rm.frames + 1; omega), (by show 8 + (5 + 11) + rm.locals ≤ 8 + (5 + 11) + rm.locals; omega)⟩) 0 hws rfl rfl hl.1 rfl (lv_room (Nat.le_of_ble_eq_true rfl)) ⟨(by show 0 + mc ≤ mc; omega), (by show 0 + ms ≤ ms; omega)⟩ dX0_ahead_7 (fun E_ w_ ce_ q9_ H locs hq hP hD hS hce hcv hcl => ?_) (fun r_ w_ H locs hq hP hD hS => ?_)
  · have hcE := hcd _ _ hq
    have hP : va_P D zCl (w_ ++ [ouC k ao g]) _ := hP
    have hD : va_D A (w_ ++ [ouC k ao g]) := hD
    by_cases e0 : E_ = eI
    · subst e0
      refine vx_catch (own := RX0) (name := eI) hown [] ⟨0, 12, 15, 24⟩ [⟨0, 12, 19, 13⟩, ⟨0, 12, 23, 26⟩] (htab.trans rfl) (fun z hz9 => nomatch hz9) (by decide) (by decide) (hts _ q1528) (va_Nw.use rfl (hN _ (zN_of q1561 rfl))) hce hcv hcl ?_
      refine lv_astore (lv' := [(5, .ref q9_), (0, .ref h), (1, .int p1), (2, .int p2), (3, .int p3), (4, .ref ao)]) hx hb dX0_ahead_15 hl (by decide) rfl (fun ls hl => ?_)
      refine lv_iconst (v := (1 : Int32)) hx hb dX0_ahead_17 (by decide) ?_
      refine widX (by omega) (by omega) ?_
      exact vx_ret (retW_i hx hb hr hlocks hP hD hS (Or.inr ⟨_, w_, hq, by rw [cdIAN_I, ← li1], rfl⟩) dX0_ahead_18)
    by_cases e1 : E_ = eA
    · subst e1
      refine vx_catch (own := RX0) (name := eA) hown [⟨0, 12, 15, 24⟩] ⟨0, 12, 19, 13⟩ [⟨0, 12, 23, 26⟩] (htab.trans rfl) (fun z hz9 => by rw [List.mem_singleton.mp hz9]; exact Or.inr ⟨by decide, _, hts _ q1528, hnc.2.2.1⟩) (by decide) (by decide) (hts _ q752) (va_Nw.use rfl (hN _ (zN_of q944 rfl))) hce hcv hcl ?_
      refine lv_astore (lv' := [(5, .ref q9_), (0, .ref h), (1, .int p1), (2, .int p2), (3, .int p3), (4, .ref ao)]) hx hb dX0_ahead_19 hl (by decide) rfl (fun ls hl => ?_)
      refine lv_iconst (v := (2 : Int32)) hx hb dX0_ahead_21 (by decide) ?_
      refine widX (by omega) (by omega) ?_
      exact vx_ret (retW_i hx hb hr hlocks hP hD hS (Or.inr ⟨_, w_, hq, by rw [cdIAN_A, ← li2], rfl⟩) dX0_ahead_22)
    by_cases e2 : E_ = eN
    · subst e2
      refine vx_catch (own := RX0) (name := eN) hown [⟨0, 12, 15, 24⟩, ⟨0, 12, 19, 13⟩] ⟨0, 12, 23, 26⟩ [] (htab.trans rfl) (fun z hz9 => (List.mem_cons.mp hz9).elim (fun h9 => by rw [h9]; exact Or.inr ⟨by decide, _, hts _ q1528, hnc.2.1⟩) (fun h9 => by rw [List.mem_singleton.mp h9]; exact Or.inr ⟨by decide, _, hts _ q752, hnc.2.2.2⟩)) (by decide) (by decide) (hts _ q1547) (va_Nw.use rfl (hN _ (zN_of q1579 rfl))) hce hcv hcl ?_
      refine lv_astore (lv' := [(5, .ref q9_), (0, .ref h), (1, .int p1), (2, .int p2), (3, .int p3), (4, .ref ao)]) hx hb dX0_ahead_23 hl (by decide) rfl (fun ls hl => ?_)
      refine lv_iconst (v := (3 : Int32)) hx hb dX0_ahead_25 (by decide) ?_
      refine widX (by omega) (by omega) ?_
      exact vx_ret (retW_i hx hb hr hlocks hP hD hS (Or.inr ⟨_, w_, hq, by rw [cdIAN_N, ← li3], rfl⟩) dX0_ahead_26)
    exact absurd (by unfold cdIAN; rw [if_neg e0, if_neg e1, if_neg e2]) hcE
  have hP : va_P D zCl (w_ ++ [ouC k ao g]) _ := hP
  have hD : va_D A (w_ ++ [ouC k ao g]) := hD
  obtain ⟨v, rfl⟩ := hv _ _ hq
  refine lv_i2l (v := v.toInt64) hx hb dX0_ahead_10 rfl ?_
  refine va_last hx hb hK hP hD hS w_.length 3 (get_last _ _) rfl out_in dX0_ahead_11 (fun H locs hP hD hS => ?_)
  have hP : va_P D zCl ((w_ ++ [ouC k ao g]).set w_.length (ouC k ao (upO g v.toInt64))) _ := hP
  have hD : va_D A ((w_ ++ [ouC k ao g]).set w_.length (ouC k ao (upO g v.toInt64))) := hD
  rw [set_last] at hP hD
  refine lv_goto (tgt := 27) hx hb dX0_ahead_12 (by decide) ?_
  refine lv_iconst (v := (0 : Int32)) hx hb dX0_ahead_27 (by decide) ?_
  refine widX (by omega) (by omega) ?_
  exact vx_ret (retW_i hx hb hr hlocks hP hD hS (Or.inl ⟨v, w_, hq, by rw [← li0], rfl⟩) dX0_ahead_28)
abbrev hhX0_ask : List (Nat × Nat × Nat × Nat) := [(0, 8, 11, 13)]
theorem kX0_ask {R : Room} {s : State} {args : Array Value} {own : String} {idx mc ms : Nat} {rm : Room} (hts : ∀ w ∈ lw_all, w.before args s = true) (hl : Cond.methodLink own idx yX0_ask ∈ lw_all) (hrc : rm.cells = mc) (hrs : rm.slots = ms) (hR : rm.frames + 1 ≤ R.frames ∧ 8 + (3 + 11) + rm.locals ≤ R.locals) : vx_CSW R s args own idx yX0_ask cX0_ask 3 (some .int) hhX0_ask (wsW_ yX0_ask cX0_ask 3 (some .int) hhX0_ask) rm mc ms 2 :=
  vx_cwSW 2 hts (lw_SW hl q1795 q106 q1796) rfl hrc hrs (by decide +kernel) hR
set_option maxRecDepth 100000 in
theorem mtX0_ask (l : Launch) (D : va_G) (k : Nat → ClassId) (Z : zZ) (hOK : zOK D zCl (zTys k) Z) (hNc : zNc Z) (ws : va_W) (g : Nat → Int64) (ao h : Nat) (fs : List Value) (hws : ws[0]? = some (h, .inr (1, fs))) {P : Option Value → va_W → Prop} {PX : String → va_W → Prop} {rm : Room} {mc ms : Nat} (hrc : rm.cells = mc) (hrs : rm.slots = ms) (hM : CtX l yX1_ask cX1_ask 8 (some .int) rm Z D zCl ws [.ref h] P PX mc ms) (hv : ∀ r w, P r w → ∃ v : Int32, r = some (.int v)) (hcd : ∀ E w, PX E w → ¬ cdA E = nI 0) : CtXH l yX0_ask cX0_ask 3 (some .int) hhX0_ask (rW rm 8 mc ms) Z D zCl (ws ++ [ouC k ao g]) [.ref h, .ref ao] (fun r' w' => (∃ (v : Int32) (w1 : va_W), P (some (.int v)) w1 ∧ r' = some (.int (nI 0)) ∧ w' = w1 ++ [ouC k ao (upO g v.toInt64)]) ∨ ∃ (E : String) (w1 : va_W), PX E w1 ∧ r' = some (.int (cdA E)) ∧ w' = w1 ++ [ouC k ao g]) (fun _ _ => False) mc ms := by
  refine CtXH.of (by decide) (Nat.le_of_ble_eq_true rfl) ?_
  intro p e9 s m args below meth c A hE htab hA hP hD hS hz ls hl
  obtain ⟨hx, hb, hr, hml, hown, hts, hlocks, hname⟩ := hE
  have hown : s.vm.findClass RX0 = some m.cls := hown
  have hK := hOK.1 _ _ _ hz
  have hN := hOK.2.1 _ _ _ hz
  have hl : lv_has ls 3 [(0, .ref h), (1, .ref ao)] := hl
  have hnc := hNc _ _ _ hz
  refine lv_aload_n hx hb dX0_ask_0 rfl (lv_at hl 1 rfl) ?_
  refine lv_iconst (v := (0 : Int32)) hx hb dX0_ask_1 (by decide) ?_
  refine lv_aload_n hx hb dX0_ask_2 rfl (lv_at hl 0 rfl) ?_
  have hP : va_P D zCl ([] ++ (ws ++ [ouC k ao g])) _ := hP
  have hD : va_D A ([] ++ (ws ++ [ouC k ao g])) := hD
  refine cXV [] ws [ouC k ao g] (As := []) (ci := 1) ⟨hx, hb, hml, hown, hts⟩ hOK hz hS hA hP hD hM (kX1_ask hts q1797 hrc hrs ⟨(by show rm.frames + 1 ≤ rm.frames + 1; omega), (by show 8 + (8 + 11) + rm.locals ≤ 8 + (8 + 11) + rm.locals; omega)⟩) 0 hws rfl rfl hl.1 rfl (lv_room (Nat.le_of_ble_eq_true rfl)) ⟨(by show 0 + mc ≤ mc; omega), (by show 0 + ms ≤ ms; omega)⟩ dX0_ask_3 (fun E_ w_ ce_ q9_ H locs hq hP hD hS hce hcv hcl => ?_) (fun r_ w_ H locs hq hP hD hS => ?_)
  · have hcE := hcd _ _ hq
    have hP : va_P D zCl (w_ ++ [ouC k ao g]) _ := hP
    have hD : va_D A (w_ ++ [ouC k ao g]) := hD
    by_cases e0 : E_ = eA
    · subst e0
      refine vx_catch (own := RX0) (name := eA) hown [] ⟨0, 8, 11, 13⟩ [] (htab.trans rfl) (fun z hz9 => nomatch hz9) (by decide) (by decide) (hts _ q752) (va_Nw.use rfl (hN _ (zN_of q944 rfl))) hce hcv hcl ?_
      refine lv_astore_n (lv' := [(2, .ref q9_), (0, .ref h), (1, .ref ao)]) hx hb dX0_ask_11 rfl hl (by decide) rfl (fun ls hl => ?_)
      refine lv_iconst (v := (1 : Int32)) hx hb dX0_ask_12 (by decide) ?_
      refine widX (by omega) (by omega) ?_
      exact vx_ret (retW_i hx hb hr hlocks hP hD hS (Or.inr ⟨_, w_, hq, by rw [cdA_A, ← li1], rfl⟩) dX0_ask_13)
    exact absurd (by unfold cdA; rw [if_neg e0]) hcE
  have hP : va_P D zCl (w_ ++ [ouC k ao g]) _ := hP
  have hD : va_D A (w_ ++ [ouC k ao g]) := hD
  obtain ⟨v, rfl⟩ := hv _ _ hq
  refine lv_i2l (v := v.toInt64) hx hb dX0_ask_6 rfl ?_
  refine va_last hx hb hK hP hD hS w_.length 3 (get_last _ _) rfl out_in dX0_ask_7 (fun H locs hP hD hS => ?_)
  have hP : va_P D zCl ((w_ ++ [ouC k ao g]).set w_.length (ouC k ao (upO g v.toInt64))) _ := hP
  have hD : va_D A ((w_ ++ [ouC k ao g]).set w_.length (ouC k ao (upO g v.toInt64))) := hD
  rw [set_last] at hP hD
  refine lv_goto (tgt := 14) hx hb dX0_ask_8 (by decide) ?_
  refine lv_iconst (v := (0 : Int32)) hx hb dX0_ask_14 (by decide) ?_
  refine widX (by omega) (by omega) ?_
  exact vx_ret (retW_i hx hb hr hlocks hP hD hS (Or.inl ⟨v, w_, hq, by rw [← li0], rfl⟩) dX0_ask_15)
abbrev hhX0_bath : List (Nat × Nat × Nat × Nat) := [(0, 9, 12, 24)]
theorem kX0_bath {R : Room} {s : State} {args : Array Value} {own : String} {idx mc ms : Nat} {rm : Room} (hts : ∀ w ∈ lw_all, w.before args s = true) (hl : Cond.methodLink own idx yX0_bath ∈ lw_all) (hrc : rm.cells = mc) (hrs : rm.slots = ms) (hR : rm.frames + 1 ≤ R.frames ∧ 8 + (4 + 11) + rm.locals ≤ R.locals) : vx_CSW R s args own idx yX0_bath cX0_bath 4 (some .int) hhX0_bath (wsW_ yX0_bath cX0_bath 4 (some .int) hhX0_bath) rm mc ms 3 :=
  vx_cwSW 3 hts (lw_SW hl q1663 q106 q1664) rfl hrc hrs (by decide +kernel) hR
set_option maxRecDepth 100000 in
theorem mtX0_bath (l : Launch) (D : va_G) (k : Nat → ClassId) (Z : zZ) (hOK : zOK D zCl (zTys k) Z) (hNc : zNc Z) (ws : va_W) (g : Nat → Int64) (ao h : Nat) (fs : List Value) (hws : ws[0]? = some (h, .inr (1, fs))) (p1 : Int32) {P : Option Value → va_W → Prop} {PX : String → va_W → Prop} {rm : Room} {mc ms : Nat} (hrc : rm.cells = mc) (hrs : rm.slots = ms) (hM : CtX l yX1_bath cX1_bath 3 (some .int) rm Z D zCl ws [.ref h, .int p1] P PX mc ms) (hv : ∀ r w, P r w → ∃ v : Int32, r = some (.int v)) (hcd : ∀ E w, PX E w → ¬ cdI E = nI 0) : CtXH l yX0_bath cX0_bath 4 (some .int) hhX0_bath (rW rm 3 mc ms) Z D zCl (ws ++ [ouC k ao g]) [.ref h, .int p1, .ref ao] (fun r' w' => (∃ (v : Int32) (w1 : va_W), P (some (.int v)) w1 ∧ r' = some (.int (nI 0)) ∧ w' = w1 ++ [ouC k ao (upO g v.toInt64)]) ∨ ∃ (E : String) (w1 : va_W), PX E w1 ∧ r' = some (.int (cdI E)) ∧ w' = w1 ++ [ouC k ao g]) (fun _ _ => False) mc ms := by
  refine CtXH.of (by decide) (Nat.le_of_ble_eq_true rfl) ?_
  intro p e9 s m args below meth c A hE htab hA hP hD hS hz ls hl
  obtain ⟨hx, hb, hr, hml, hown, hts, hlocks, hname⟩ := hE
  have hown : s.vm.findClass RX0 = some m.cls := hown
  have hK := hOK.1 _ _ _ hz
  have hN := hOK.2.1 _ _ _ hz
  have hl : lv_has ls 4 [(0, .ref h), (1, .int p1), (2, .ref ao)] := hl
  have hnc := hNc _ _ _ hz
  refine lv_aload_n hx hb dX0_bath_0 rfl (lv_at hl 2 rfl) ?_
  refine lv_iconst (v := (0 : Int32)) hx hb dX0_bath_1 (by decide) ?_
  refine lv_aload_n hx hb dX0_bath_2 rfl (lv_at hl 0 rfl) ?_
  refine lv_iload_n hx hb dX0_bath_3 rfl (lv_at hl 1 rfl) ?_
  have hP : va_P D zCl ([] ++ (ws ++ [ouC k ao g])) _ := hP
  have hD : va_D A ([] ++ (ws ++ [ouC k ao g])) := hD
  refine cXV [] ws [ouC k ao g] (As := [.int p1]) (ci := 1) ⟨hx, hb, hml, hown, hts⟩ hOK hz hS hA hP hD hM (kX1_bath hts q1665 hrc hrs ⟨(by show rm.frames + 1 ≤ rm.frames + 1; omega), (by show 8 + (3 + 11) + rm.locals ≤ 8 + (3 + 11) + rm.locals; omega)⟩) 0 hws rfl rfl hl.1 rfl (lv_room (Nat.le_of_ble_eq_true rfl)) ⟨(by show 0 + mc ≤ mc; omega), (by show 0 + ms ≤ ms; omega)⟩ dX0_bath_4 (fun E_ w_ ce_ q9_ H locs hq hP hD hS hce hcv hcl => ?_) (fun r_ w_ H locs hq hP hD hS => ?_)
  · have hcE := hcd _ _ hq
    have hP : va_P D zCl (w_ ++ [ouC k ao g]) _ := hP
    have hD : va_D A (w_ ++ [ouC k ao g]) := hD
    by_cases e0 : E_ = eI
    · subst e0
      refine vx_catch (own := RX0) (name := eI) hown [] ⟨0, 9, 12, 24⟩ [] (htab.trans rfl) (fun z hz9 => nomatch hz9) (by decide) (by decide) (hts _ q1528) (va_Nw.use rfl (hN _ (zN_of q1561 rfl))) hce hcv hcl ?_
      refine lv_astore_n (lv' := [(3, .ref q9_), (0, .ref h), (1, .int p1), (2, .ref ao)]) hx hb dX0_bath_12 rfl hl (by decide) rfl (fun ls hl => ?_)
      refine lv_iconst (v := (1 : Int32)) hx hb dX0_bath_13 (by decide) ?_
      refine widX (by omega) (by omega) ?_
      exact vx_ret (retW_i hx hb hr hlocks hP hD hS (Or.inr ⟨_, w_, hq, by rw [cdI_I, ← li1], rfl⟩) dX0_bath_14)
    exact absurd (by unfold cdI; rw [if_neg e0]) hcE
  have hP : va_P D zCl (w_ ++ [ouC k ao g]) _ := hP
  have hD : va_D A (w_ ++ [ouC k ao g]) := hD
  obtain ⟨v, rfl⟩ := hv _ _ hq
  refine lv_i2l (v := v.toInt64) hx hb dX0_bath_7 rfl ?_
  refine va_last hx hb hK hP hD hS w_.length 3 (get_last _ _) rfl out_in dX0_bath_8 (fun H locs hP hD hS => ?_)
  have hP : va_P D zCl ((w_ ++ [ouC k ao g]).set w_.length (ouC k ao (upO g v.toInt64))) _ := hP
  have hD : va_D A ((w_ ++ [ouC k ao g]).set w_.length (ouC k ao (upO g v.toInt64))) := hD
  rw [set_last] at hP hD
  refine lv_goto (tgt := 15) hx hb dX0_bath_9 (by decide) ?_
  refine lv_iconst (v := (0 : Int32)) hx hb dX0_bath_15 (by decide) ?_
  refine widX (by omega) (by omega) ?_
  exact vx_ret (retW_i hx hb hr hlocks hP hD hS (Or.inl ⟨v, w_, hq, by rw [← li0], rfl⟩) dX0_bath_16)
abbrev hhX0_bored : List (Nat × Nat × Nat × Nat) := [(0, 9, 12, 13)]
theorem kX0_bored {R : Room} {s : State} {args : Array Value} {own : String} {idx mc ms : Nat} {rm : Room} (hts : ∀ w ∈ lw_all, w.before args s = true) (hl : Cond.methodLink own idx yX0_bored ∈ lw_all) (hrc : rm.cells = mc) (hrs : rm.slots = ms) (hR : rm.frames + 1 ≤ R.frames ∧ 8 + (4 + 11) + rm.locals ≤ R.locals) : vx_CSW R s args own idx yX0_bored cX0_bored 4 (some .int) hhX0_bored (wsW_ yX0_bored cX0_bored 4 (some .int) hhX0_bored) rm mc ms 3 :=
  vx_cwSW 3 hts (lw_SW hl q1803 q106 q1804) rfl hrc hrs (by decide +kernel) hR
set_option maxRecDepth 100000 in
theorem mtX0_bored (l : Launch) (D : va_G) (k : Nat → ClassId) (Z : zZ) (hOK : zOK D zCl (zTys k) Z) (hNc : zNc Z) (ws : va_W) (g : Nat → Int64) (ao h : Nat) (fs : List Value) (hws : ws[0]? = some (h, .inr (1, fs))) (p1 : Bool) {P : Option Value → va_W → Prop} {PX : String → va_W → Prop} {rm : Room} {mc ms : Nat} (hrc : rm.cells = mc) (hrs : rm.slots = ms) (hM : CtX l yX1_bored cX1_bored 5 (some .int) rm Z D zCl ws [.ref h, .int (bz p1)] P PX mc ms) (hv : ∀ r w, P r w → ∃ v : Int32, r = some (.int v)) (hcd : ∀ E w, PX E w → ¬ cdA E = nI 0) : CtXH l yX0_bored cX0_bored 4 (some .int) hhX0_bored (rW rm 5 mc ms) Z D zCl (ws ++ [ouC k ao g]) [.ref h, .int (bz p1), .ref ao] (fun r' w' => (∃ (v : Int32) (w1 : va_W), P (some (.int v)) w1 ∧ r' = some (.int (nI 0)) ∧ w' = w1 ++ [ouC k ao (upO g v.toInt64)]) ∨ ∃ (E : String) (w1 : va_W), PX E w1 ∧ r' = some (.int (cdA E)) ∧ w' = w1 ++ [ouC k ao g]) (fun _ _ => False) mc ms := by
  refine CtXH.of (by decide) (Nat.le_of_ble_eq_true rfl) ?_
  intro p e9 s m args below meth c A hE htab hA hP hD hS hz ls hl
  obtain ⟨hx, hb, hr, hml, hown, hts, hlocks, hname⟩ := hE
  have hown : s.vm.findClass RX0 = some m.cls := hown
  have hK := hOK.1 _ _ _ hz
  have hN := hOK.2.1 _ _ _ hz
  have hl : lv_has ls 4 [(0, .ref h), (1, .int (bz p1)), (2, .ref ao)] := hl
  have hnc := hNc _ _ _ hz
  refine lv_aload_n hx hb dX0_bored_0 rfl (lv_at hl 2 rfl) ?_
  refine lv_iconst (v := (0 : Int32)) hx hb dX0_bored_1 (by decide) ?_
  refine lv_aload_n hx hb dX0_bored_2 rfl (lv_at hl 0 rfl) ?_
  refine lv_iload_n hx hb dX0_bored_3 rfl (lv_at hl 1 rfl) ?_
  have hP : va_P D zCl ([] ++ (ws ++ [ouC k ao g])) _ := hP
  have hD : va_D A ([] ++ (ws ++ [ouC k ao g])) := hD
  refine cXV [] ws [ouC k ao g] (As := [.int (bz p1)]) (ci := 1) ⟨hx, hb, hml, hown, hts⟩ hOK hz hS hA hP hD hM (kX1_bored hts q1805 hrc hrs ⟨(by show rm.frames + 1 ≤ rm.frames + 1; omega), (by show 8 + (5 + 11) + rm.locals ≤ 8 + (5 + 11) + rm.locals; omega)⟩) 0 hws rfl rfl hl.1 rfl (lv_room (Nat.le_of_ble_eq_true rfl)) ⟨(by show 0 + mc ≤ mc; omega), (by show 0 + ms ≤ ms; omega)⟩ dX0_bored_4 (fun E_ w_ ce_ q9_ H locs hq hP hD hS hce hcv hcl => ?_) (fun r_ w_ H locs hq hP hD hS => ?_)
  · have hcE := hcd _ _ hq
    have hP : va_P D zCl (w_ ++ [ouC k ao g]) _ := hP
    have hD : va_D A (w_ ++ [ouC k ao g]) := hD
    by_cases e0 : E_ = eA
    · subst e0
      refine vx_catch (own := RX0) (name := eA) hown [] ⟨0, 9, 12, 13⟩ [] (htab.trans rfl) (fun z hz9 => nomatch hz9) (by decide) (by decide) (hts _ q752) (va_Nw.use rfl (hN _ (zN_of q944 rfl))) hce hcv hcl ?_
      refine lv_astore_n (lv' := [(3, .ref q9_), (0, .ref h), (1, .int (bz p1)), (2, .ref ao)]) hx hb dX0_bored_12 rfl hl (by decide) rfl (fun ls hl => ?_)
      refine lv_iconst (v := (1 : Int32)) hx hb dX0_bored_13 (by decide) ?_
      refine widX (by omega) (by omega) ?_
      exact vx_ret (retW_i hx hb hr hlocks hP hD hS (Or.inr ⟨_, w_, hq, by rw [cdA_A, ← li1], rfl⟩) dX0_bored_14)
    exact absurd (by unfold cdA; rw [if_neg e0]) hcE
  have hP : va_P D zCl (w_ ++ [ouC k ao g]) _ := hP
  have hD : va_D A (w_ ++ [ouC k ao g]) := hD
  obtain ⟨v, rfl⟩ := hv _ _ hq
  refine lv_i2l (v := v.toInt64) hx hb dX0_bored_7 rfl ?_
  refine va_last hx hb hK hP hD hS w_.length 3 (get_last _ _) rfl out_in dX0_bored_8 (fun H locs hP hD hS => ?_)
  have hP : va_P D zCl ((w_ ++ [ouC k ao g]).set w_.length (ouC k ao (upO g v.toInt64))) _ := hP
  have hD : va_D A ((w_ ++ [ouC k ao g]).set w_.length (ouC k ao (upO g v.toInt64))) := hD
  rw [set_last] at hP hD
  refine lv_goto (tgt := 15) hx hb dX0_bored_9 (by decide) ?_
  refine lv_iconst (v := (0 : Int32)) hx hb dX0_bored_15 (by decide) ?_
  refine widX (by omega) (by omega) ?_
  exact vx_ret (retW_i hx hb hr hlocks hP hD hS (Or.inl ⟨v, w_, hq, by rw [← li0], rfl⟩) dX0_bored_16)
abbrev hhX0_buy : List (Nat × Nat × Nat × Nat) := [(0, 9, 12, 13)]
theorem kX0_buy {R : Room} {s : State} {args : Array Value} {own : String} {idx mc ms : Nat} {rm : Room} (hts : ∀ w ∈ lw_all, w.before args s = true) (hl : Cond.methodLink own idx yX0_buy ∈ lw_all) (hrc : rm.cells = mc) (hrs : rm.slots = ms) (hR : rm.frames + 1 ≤ R.frames ∧ 8 + (4 + 11) + rm.locals ≤ R.locals) : vx_CSW R s args own idx yX0_buy cX0_buy 4 (some .int) hhX0_buy (wsW_ yX0_buy cX0_buy 4 (some .int) hhX0_buy) rm mc ms 3 :=
  vx_cwSW 3 hts (lw_SW hl q1684 q106 q1685) rfl hrc hrs (by decide +kernel) hR
set_option maxRecDepth 100000 in
theorem mtX0_buy (l : Launch) (D : va_G) (k : Nat → ClassId) (Z : zZ) (hOK : zOK D zCl (zTys k) Z) (hNc : zNc Z) (ws : va_W) (g : Nat → Int64) (ao h : Nat) (fs : List Value) (hws : ws[0]? = some (h, .inr (1, fs))) (p1 : Int32) {P : Option Value → va_W → Prop} {PX : String → va_W → Prop} {rm : Room} {mc ms : Nat} (hrc : rm.cells = mc) (hrs : rm.slots = ms) (hM : CtX l yX1_buy cX1_buy 2 (some .int) rm Z D zCl ws [.ref h, .int p1] P PX mc ms) (hv : ∀ r w, P r w → ∃ v : Int32, r = some (.int v)) (hcd : ∀ E w, PX E w → ¬ cdA E = nI 0) : CtXH l yX0_buy cX0_buy 4 (some .int) hhX0_buy (rW rm 2 mc ms) Z D zCl (ws ++ [ouC k ao g]) [.ref h, .int p1, .ref ao] (fun r' w' => (∃ (v : Int32) (w1 : va_W), P (some (.int v)) w1 ∧ r' = some (.int (nI 0)) ∧ w' = w1 ++ [ouC k ao (upO g v.toInt64)]) ∨ ∃ (E : String) (w1 : va_W), PX E w1 ∧ r' = some (.int (cdA E)) ∧ w' = w1 ++ [ouC k ao g]) (fun _ _ => False) mc ms := by
  refine CtXH.of (by decide) (Nat.le_of_ble_eq_true rfl) ?_
  intro p e9 s m args below meth c A hE htab hA hP hD hS hz ls hl
  obtain ⟨hx, hb, hr, hml, hown, hts, hlocks, hname⟩ := hE
  have hown : s.vm.findClass RX0 = some m.cls := hown
  have hK := hOK.1 _ _ _ hz
  have hN := hOK.2.1 _ _ _ hz
  have hl : lv_has ls 4 [(0, .ref h), (1, .int p1), (2, .ref ao)] := hl
  have hnc := hNc _ _ _ hz
  refine lv_aload_n hx hb dX0_buy_0 rfl (lv_at hl 2 rfl) ?_
  refine lv_iconst (v := (0 : Int32)) hx hb dX0_buy_1 (by decide) ?_
  refine lv_aload_n hx hb dX0_buy_2 rfl (lv_at hl 0 rfl) ?_
  refine lv_iload_n hx hb dX0_buy_3 rfl (lv_at hl 1 rfl) ?_
  have hP : va_P D zCl ([] ++ (ws ++ [ouC k ao g])) _ := hP
  have hD : va_D A ([] ++ (ws ++ [ouC k ao g])) := hD
  refine cXV [] ws [ouC k ao g] (As := [.int p1]) (ci := 1) ⟨hx, hb, hml, hown, hts⟩ hOK hz hS hA hP hD hM (kX1_buy hts q1686 hrc hrs ⟨(by show rm.frames + 1 ≤ rm.frames + 1; omega), (by show 8 + (2 + 11) + rm.locals ≤ 8 + (2 + 11) + rm.locals; omega)⟩) 0 hws rfl rfl hl.1 rfl (lv_room (Nat.le_of_ble_eq_true rfl)) ⟨(by show 0 + mc ≤ mc; omega), (by show 0 + ms ≤ ms; omega)⟩ dX0_buy_4 (fun E_ w_ ce_ q9_ H locs hq hP hD hS hce hcv hcl => ?_) (fun r_ w_ H locs hq hP hD hS => ?_)
  · have hcE := hcd _ _ hq
    have hP : va_P D zCl (w_ ++ [ouC k ao g]) _ := hP
    have hD : va_D A (w_ ++ [ouC k ao g]) := hD
    by_cases e0 : E_ = eA
    · subst e0
      refine vx_catch (own := RX0) (name := eA) hown [] ⟨0, 9, 12, 13⟩ [] (htab.trans rfl) (fun z hz9 => nomatch hz9) (by decide) (by decide) (hts _ q752) (va_Nw.use rfl (hN _ (zN_of q944 rfl))) hce hcv hcl ?_
      refine lv_astore_n (lv' := [(3, .ref q9_), (0, .ref h), (1, .int p1), (2, .ref ao)]) hx hb dX0_buy_12 rfl hl (by decide) rfl (fun ls hl => ?_)
      refine lv_iconst (v := (1 : Int32)) hx hb dX0_buy_13 (by decide) ?_
      refine widX (by omega) (by omega) ?_
      exact vx_ret (retW_i hx hb hr hlocks hP hD hS (Or.inr ⟨_, w_, hq, by rw [cdA_A, ← li1], rfl⟩) dX0_buy_14)
    exact absurd (by unfold cdA; rw [if_neg e0]) hcE
  have hP : va_P D zCl (w_ ++ [ouC k ao g]) _ := hP
  have hD : va_D A (w_ ++ [ouC k ao g]) := hD
  obtain ⟨v, rfl⟩ := hv _ _ hq
  refine lv_i2l (v := v.toInt64) hx hb dX0_buy_7 rfl ?_
  refine va_last hx hb hK hP hD hS w_.length 3 (get_last _ _) rfl out_in dX0_buy_8 (fun H locs hP hD hS => ?_)
  have hP : va_P D zCl ((w_ ++ [ouC k ao g]).set w_.length (ouC k ao (upO g v.toInt64))) _ := hP
  have hD : va_D A ((w_ ++ [ouC k ao g]).set w_.length (ouC k ao (upO g v.toInt64))) := hD
  rw [set_last] at hP hD
  refine lv_goto (tgt := 15) hx hb dX0_buy_9 (by decide) ?_
  refine lv_iconst (v := (0 : Int32)) hx hb dX0_buy_15 (by decide) ?_
  refine widX (by omega) (by omega) ?_
  exact vx_ret (retW_i hx hb hr hlocks hP hD hS (Or.inl ⟨v, w_, hq, by rw [← li0], rfl⟩) dX0_buy_16)
abbrev hhX0_calendar : List (Nat × Nat × Nat × Nat) := [(0, 10, 13, 24)]
theorem kX0_calendar {R : Room} {s : State} {args : Array Value} {own : String} {idx mc ms : Nat} {rm : Room} (hts : ∀ w ∈ lw_all, w.before args s = true) (hl : Cond.methodLink own idx yX0_calendar ∈ lw_all) (hrc : rm.cells = mc) (hrs : rm.slots = ms) (hR : rm.frames + 1 ≤ R.frames ∧ 8 + (5 + 11) + rm.locals ≤ R.locals) : vx_CSW R s args own idx yX0_calendar cX0_calendar 5 (some .int) hhX0_calendar (wsW_ yX0_calendar cX0_calendar 5 (some .int) hhX0_calendar) rm mc ms 4 :=
  vx_cwSW 4 hts (lw_SW hl q1607 q106 q1608) rfl hrc hrs (by decide +kernel) hR
set_option maxRecDepth 100000 in
theorem mtX0_calendar (l : Launch) (D : va_G) (k : Nat → ClassId) (Z : zZ) (hOK : zOK D zCl (zTys k) Z) (hNc : zNc Z) (ws : va_W) (g : Nat → Int64) (ao h : Nat) (fs : List Value) (hws : ws[0]? = some (h, .inr (1, fs))) (p1 : Int32) (p2 : Bool) {P : Option Value → va_W → Prop} {PX : String → va_W → Prop} {rm : Room} {mc ms : Nat} (hrc : rm.cells = mc) (hrs : rm.slots = ms) (hM : CtX l yX1_calendar cX1_calendar 3 (some .int) rm Z D zCl ws [.ref h, .int p1, .int (bz p2)] P PX mc ms) (hv : ∀ r w, P r w → ∃ v : Int32, r = some (.int v)) (hcd : ∀ E w, PX E w → ¬ cdI E = nI 0) : CtXH l yX0_calendar cX0_calendar 5 (some .int) hhX0_calendar (rW rm 3 mc ms) Z D zCl (ws ++ [ouC k ao g]) [.ref h, .int p1, .int (bz p2), .ref ao] (fun r' w' => (∃ (v : Int32) (w1 : va_W), P (some (.int v)) w1 ∧ r' = some (.int (nI 0)) ∧ w' = w1 ++ [ouC k ao (upO g v.toInt64)]) ∨ ∃ (E : String) (w1 : va_W), PX E w1 ∧ r' = some (.int (cdI E)) ∧ w' = w1 ++ [ouC k ao g]) (fun _ _ => False) mc ms := by
  refine CtXH.of (by decide) (Nat.le_of_ble_eq_true rfl) ?_
  intro p e9 s m args below meth c A hE htab hA hP hD hS hz ls hl
  obtain ⟨hx, hb, hr, hml, hown, hts, hlocks, hname⟩ := hE
  have hown : s.vm.findClass RX0 = some m.cls := hown
  have hK := hOK.1 _ _ _ hz
  have hN := hOK.2.1 _ _ _ hz
  have hl : lv_has ls 5 [(0, .ref h), (1, .int p1), (2, .int (bz p2)), (3, .ref ao)] := hl
  have hnc := hNc _ _ _ hz
  refine lv_aload_n hx hb dX0_calendar_0 rfl (lv_at hl 3 rfl) ?_
  refine lv_iconst (v := (0 : Int32)) hx hb dX0_calendar_1 (by decide) ?_
  refine lv_aload_n hx hb dX0_calendar_2 rfl (lv_at hl 0 rfl) ?_
  refine lv_iload_n hx hb dX0_calendar_3 rfl (lv_at hl 1 rfl) ?_
  refine lv_iload_n hx hb dX0_calendar_4 rfl (lv_at hl 2 rfl) ?_
  have hP : va_P D zCl ([] ++ (ws ++ [ouC k ao g])) _ := hP
  have hD : va_D A ([] ++ (ws ++ [ouC k ao g])) := hD
  refine cXV [] ws [ouC k ao g] (As := [.int p1, .int (bz p2)]) (ci := 1) ⟨hx, hb, hml, hown, hts⟩ hOK hz hS hA hP hD hM (kX1_calendar hts q1609 hrc hrs ⟨(by show rm.frames + 1 ≤ rm.frames + 1; omega), (by show 8 + (3 + 11) + rm.locals ≤ 8 + (3 + 11) + rm.locals; omega)⟩) 0 hws rfl rfl hl.1 rfl (lv_room (Nat.le_of_ble_eq_true rfl)) ⟨(by show 0 + mc ≤ mc; omega), (by show 0 + ms ≤ ms; omega)⟩ dX0_calendar_5 (fun E_ w_ ce_ q9_ H locs hq hP hD hS hce hcv hcl => ?_) (fun r_ w_ H locs hq hP hD hS => ?_)
  · have hcE := hcd _ _ hq
    have hP : va_P D zCl (w_ ++ [ouC k ao g]) _ := hP
    have hD : va_D A (w_ ++ [ouC k ao g]) := hD
    by_cases e0 : E_ = eI
    · subst e0
      refine vx_catch (own := RX0) (name := eI) hown [] ⟨0, 10, 13, 24⟩ [] (htab.trans rfl) (fun z hz9 => nomatch hz9) (by decide) (by decide) (hts _ q1528) (va_Nw.use rfl (hN _ (zN_of q1561 rfl))) hce hcv hcl ?_
      refine lv_astore (lv' := [(4, .ref q9_), (0, .ref h), (1, .int p1), (2, .int (bz p2)), (3, .ref ao)]) hx hb dX0_calendar_13 hl (by decide) rfl (fun ls hl => ?_)
      refine lv_iconst (v := (1 : Int32)) hx hb dX0_calendar_15 (by decide) ?_
      refine widX (by omega) (by omega) ?_
      exact vx_ret (retW_i hx hb hr hlocks hP hD hS (Or.inr ⟨_, w_, hq, by rw [cdI_I, ← li1], rfl⟩) dX0_calendar_16)
    exact absurd (by unfold cdI; rw [if_neg e0]) hcE
  have hP : va_P D zCl (w_ ++ [ouC k ao g]) _ := hP
  have hD : va_D A (w_ ++ [ouC k ao g]) := hD
  obtain ⟨v, rfl⟩ := hv _ _ hq
  refine lv_i2l (v := v.toInt64) hx hb dX0_calendar_8 rfl ?_
  refine va_last hx hb hK hP hD hS w_.length 3 (get_last _ _) rfl out_in dX0_calendar_9 (fun H locs hP hD hS => ?_)
  have hP : va_P D zCl ((w_ ++ [ouC k ao g]).set w_.length (ouC k ao (upO g v.toInt64))) _ := hP
  have hD : va_D A ((w_ ++ [ouC k ao g]).set w_.length (ouC k ao (upO g v.toInt64))) := hD
  rw [set_last] at hP hD
  refine lv_goto (tgt := 17) hx hb dX0_calendar_10 (by decide) ?_
  refine lv_iconst (v := (0 : Int32)) hx hb dX0_calendar_17 (by decide) ?_
  refine widX (by omega) (by omega) ?_
  exact vx_ret (retW_i hx hb hr hlocks hP hD hS (Or.inl ⟨v, w_, hq, by rw [← li0], rfl⟩) dX0_calendar_18)
abbrev hhX0_calm : List (Nat × Nat × Nat × Nat) := [(0, 9, 12, 24)]
theorem kX0_calm {R : Room} {s : State} {args : Array Value} {own : String} {idx mc ms : Nat} {rm : Room} (hts : ∀ w ∈ lw_all, w.before args s = true) (hl : Cond.methodLink own idx yX0_calm ∈ lw_all) (hrc : rm.cells = mc) (hrs : rm.slots = ms) (hR : rm.frames + 1 ≤ R.frames ∧ 8 + (4 + 11) + rm.locals ≤ R.locals) : vx_CSW R s args own idx yX0_calm cX0_calm 4 (some .int) hhX0_calm (wsW_ yX0_calm cX0_calm 4 (some .int) hhX0_calm) rm mc ms 3 :=
  vx_cwSW 3 hts (lw_SW hl q1692 q106 q1693) rfl hrc hrs (by decide +kernel) hR
set_option maxRecDepth 100000 in
theorem mtX0_calm (l : Launch) (D : va_G) (k : Nat → ClassId) (Z : zZ) (hOK : zOK D zCl (zTys k) Z) (hNc : zNc Z) (ws : va_W) (g : Nat → Int64) (ao h : Nat) (fs : List Value) (hws : ws[0]? = some (h, .inr (1, fs))) (p1 : Int32) {P : Option Value → va_W → Prop} {PX : String → va_W → Prop} {rm : Room} {mc ms : Nat} (hrc : rm.cells = mc) (hrs : rm.slots = ms) (hM : CtX l yX1_calm cX1_calm 2 (some .int) rm Z D zCl ws [.ref h, .int p1] P PX mc ms) (hv : ∀ r w, P r w → ∃ v : Int32, r = some (.int v)) (hcd : ∀ E w, PX E w → ¬ cdI E = nI 0) : CtXH l yX0_calm cX0_calm 4 (some .int) hhX0_calm (rW rm 2 mc ms) Z D zCl (ws ++ [ouC k ao g]) [.ref h, .int p1, .ref ao] (fun r' w' => (∃ (v : Int32) (w1 : va_W), P (some (.int v)) w1 ∧ r' = some (.int (nI 0)) ∧ w' = w1 ++ [ouC k ao (upO g v.toInt64)]) ∨ ∃ (E : String) (w1 : va_W), PX E w1 ∧ r' = some (.int (cdI E)) ∧ w' = w1 ++ [ouC k ao g]) (fun _ _ => False) mc ms := by
  refine CtXH.of (by decide) (Nat.le_of_ble_eq_true rfl) ?_
  intro p e9 s m args below meth c A hE htab hA hP hD hS hz ls hl
  obtain ⟨hx, hb, hr, hml, hown, hts, hlocks, hname⟩ := hE
  have hown : s.vm.findClass RX0 = some m.cls := hown
  have hK := hOK.1 _ _ _ hz
  have hN := hOK.2.1 _ _ _ hz
  have hl : lv_has ls 4 [(0, .ref h), (1, .int p1), (2, .ref ao)] := hl
  have hnc := hNc _ _ _ hz
  refine lv_aload_n hx hb dX0_calm_0 rfl (lv_at hl 2 rfl) ?_
  refine lv_iconst (v := (0 : Int32)) hx hb dX0_calm_1 (by decide) ?_
  refine lv_aload_n hx hb dX0_calm_2 rfl (lv_at hl 0 rfl) ?_
  refine lv_iload_n hx hb dX0_calm_3 rfl (lv_at hl 1 rfl) ?_
  have hP : va_P D zCl ([] ++ (ws ++ [ouC k ao g])) _ := hP
  have hD : va_D A ([] ++ (ws ++ [ouC k ao g])) := hD
  refine cXV [] ws [ouC k ao g] (As := [.int p1]) (ci := 1) ⟨hx, hb, hml, hown, hts⟩ hOK hz hS hA hP hD hM (kX1_calm hts q1694 hrc hrs ⟨(by show rm.frames + 1 ≤ rm.frames + 1; omega), (by show 8 + (2 + 11) + rm.locals ≤ 8 + (2 + 11) + rm.locals; omega)⟩) 0 hws rfl rfl hl.1 rfl (lv_room (Nat.le_of_ble_eq_true rfl)) ⟨(by show 0 + mc ≤ mc; omega), (by show 0 + ms ≤ ms; omega)⟩ dX0_calm_4 (fun E_ w_ ce_ q9_ H locs hq hP hD hS hce hcv hcl => ?_) (fun r_ w_ H locs hq hP hD hS => ?_)
  · have hcE := hcd _ _ hq
    have hP : va_P D zCl (w_ ++ [ouC k ao g]) _ := hP
    have hD : va_D A (w_ ++ [ouC k ao g]) := hD
    by_cases e0 : E_ = eI
    · subst e0
      refine vx_catch (own := RX0) (name := eI) hown [] ⟨0, 9, 12, 24⟩ [] (htab.trans rfl) (fun z hz9 => nomatch hz9) (by decide) (by decide) (hts _ q1528) (va_Nw.use rfl (hN _ (zN_of q1561 rfl))) hce hcv hcl ?_
      refine lv_astore_n (lv' := [(3, .ref q9_), (0, .ref h), (1, .int p1), (2, .ref ao)]) hx hb dX0_calm_12 rfl hl (by decide) rfl (fun ls hl => ?_)
      refine lv_iconst (v := (1 : Int32)) hx hb dX0_calm_13 (by decide) ?_
      refine widX (by omega) (by omega) ?_
      exact vx_ret (retW_i hx hb hr hlocks hP hD hS (Or.inr ⟨_, w_, hq, by rw [cdI_I, ← li1], rfl⟩) dX0_calm_14)
    exact absurd (by unfold cdI; rw [if_neg e0]) hcE
  have hP : va_P D zCl (w_ ++ [ouC k ao g]) _ := hP
  have hD : va_D A (w_ ++ [ouC k ao g]) := hD
  obtain ⟨v, rfl⟩ := hv _ _ hq
  refine lv_i2l (v := v.toInt64) hx hb dX0_calm_7 rfl ?_
  refine va_last hx hb hK hP hD hS w_.length 3 (get_last _ _) rfl out_in dX0_calm_8 (fun H locs hP hD hS => ?_)
  have hP : va_P D zCl ((w_ ++ [ouC k ao g]).set w_.length (ouC k ao (upO g v.toInt64))) _ := hP
  have hD : va_D A ((w_ ++ [ouC k ao g]).set w_.length (ouC k ao (upO g v.toInt64))) := hD
  rw [set_last] at hP hD
  refine lv_goto (tgt := 15) hx hb dX0_calm_9 (by decide) ?_
  refine lv_iconst (v := (0 : Int32)) hx hb dX0_calm_15 (by decide) ?_
  refine widX (by omega) (by omega) ?_
  exact vx_ret (retW_i hx hb hr hlocks hP hD hS (Or.inl ⟨v, w_, hq, by rw [← li0], rfl⟩) dX0_calm_16)
abbrev hhX0_come : List (Nat × Nat × Nat × Nat) := [(0, 17, 20, 24)]
theorem kX0_come {R : Room} {s : State} {args : Array Value} {own : String} {idx mc ms : Nat} {rm : Room} (hts : ∀ w ∈ lw_all, w.before args s = true) (hl : Cond.methodLink own idx yX0_come ∈ lw_all) (hrc : rm.cells = mc) (hrs : rm.slots = ms) (hR : rm.frames + 1 ≤ R.frames ∧ 8 + (5 + 11) + rm.locals ≤ R.locals) : vx_CSW R s args own idx yX0_come cX0_come 5 (some .int) hhX0_come (wsW_ yX0_come cX0_come 5 (some .int) hhX0_come) rm mc ms 4 :=
  vx_cwSW 4 hts (lw_SW hl q1642 q106 q1643) rfl hrc hrs (by decide +kernel) hR
set_option maxRecDepth 100000 in
theorem mtX0_come (l : Launch) (D : va_G) (k : Nat → ClassId) (Z : zZ) (hOK : zOK D zCl (zTys k) Z) (hNc : zNc Z) (ws : va_W) (g : Nat → Int64) (ao h : Nat) (fs : List Value) (hws : ws[0]? = some (h, .inr (1, fs))) (p1 : Int32) (p2 : Bool) {P : Option Value → va_W → Prop} {PX : String → va_W → Prop} {rm : Room} {mc ms : Nat} (hrc : rm.cells = mc) (hrs : rm.slots = ms) (hM : CtX l yX1_come cX1_come 4 (some .boolean) rm Z D zCl ws [.ref h, .int p1, .int (bz p2)] P PX mc ms) (hv : ∀ r w, P r w → ∃ v : Bool, r = some (.int (bz v))) (hcd : ∀ E w, PX E w → ¬ cdI E = nI 0) : CtXH l yX0_come cX0_come 5 (some .int) hhX0_come (rW rm 4 mc ms) Z D zCl (ws ++ [ouC k ao g]) [.ref h, .int p1, .int (bz p2), .ref ao] (fun r' w' => (∃ (v : Bool) (w1 : va_W), P (some (.int (bz v))) w1 ∧ r' = some (.int (nI 0)) ∧ w' = w1 ++ [ouC k ao (upO g (bzL v))]) ∨ ∃ (E : String) (w1 : va_W), PX E w1 ∧ r' = some (.int (cdI E)) ∧ w' = w1 ++ [ouC k ao g]) (fun _ _ => False) mc ms := by
  refine CtXH.of (by decide) (Nat.le_of_ble_eq_true rfl) ?_
  intro p e9 s m args below meth c A hE htab hA hP hD hS hz ls hl
  obtain ⟨hx, hb, hr, hml, hown, hts, hlocks, hname⟩ := hE
  have hown : s.vm.findClass RX0 = some m.cls := hown
  have hK := hOK.1 _ _ _ hz
  have hN := hOK.2.1 _ _ _ hz
  have hl : lv_has ls 5 [(0, .ref h), (1, .int p1), (2, .int (bz p2)), (3, .ref ao)] := hl
  have hnc := hNc _ _ _ hz
  refine lv_aload_n hx hb dX0_come_0 rfl (lv_at hl 3 rfl) ?_
  refine lv_iconst (v := (0 : Int32)) hx hb dX0_come_1 (by decide) ?_
  refine lv_aload_n hx hb dX0_come_2 rfl (lv_at hl 0 rfl) ?_
  refine lv_iload_n hx hb dX0_come_3 rfl (lv_at hl 1 rfl) ?_
  refine lv_iload_n hx hb dX0_come_4 rfl (lv_at hl 2 rfl) ?_
  have hP : va_P D zCl ([] ++ (ws ++ [ouC k ao g])) _ := hP
  have hD : va_D A ([] ++ (ws ++ [ouC k ao g])) := hD
  refine cXV [] ws [ouC k ao g] (As := [.int p1, .int (bz p2)]) (ci := 1) ⟨hx, hb, hml, hown, hts⟩ hOK hz hS hA hP hD hM (kX1_come hts q1644 hrc hrs ⟨(by show rm.frames + 1 ≤ rm.frames + 1; omega), (by show 8 + (4 + 11) + rm.locals ≤ 8 + (4 + 11) + rm.locals; omega)⟩) 0 hws rfl rfl hl.1 rfl (lv_room (Nat.le_of_ble_eq_true rfl)) ⟨(by show 0 + mc ≤ mc; omega), (by show 0 + ms ≤ ms; omega)⟩ dX0_come_5 (fun E_ w_ ce_ q9_ H locs hq hP hD hS hce hcv hcl => ?_) (fun r_ w_ H locs hq hP hD hS => ?_)
  · have hcE := hcd _ _ hq
    have hP : va_P D zCl (w_ ++ [ouC k ao g]) _ := hP
    have hD : va_D A (w_ ++ [ouC k ao g]) := hD
    by_cases e0 : E_ = eI
    · subst e0
      refine vx_catch (own := RX0) (name := eI) hown [] ⟨0, 17, 20, 24⟩ [] (htab.trans rfl) (fun z hz9 => nomatch hz9) (by decide) (by decide) (hts _ q1528) (va_Nw.use rfl (hN _ (zN_of q1561 rfl))) hce hcv hcl ?_
      refine lv_astore (lv' := [(4, .ref q9_), (0, .ref h), (1, .int p1), (2, .int (bz p2)), (3, .ref ao)]) hx hb dX0_come_20 hl (by decide) rfl (fun ls hl => ?_)
      refine lv_iconst (v := (1 : Int32)) hx hb dX0_come_22 (by decide) ?_
      refine widX (by omega) (by omega) ?_
      exact vx_ret (retW_i hx hb hr hlocks hP hD hS (Or.inr ⟨_, w_, hq, by rw [cdI_I, ← li1], rfl⟩) dX0_come_23)
    exact absurd (by unfold cdI; rw [if_neg e0]) hcE
  have hP : va_P D zCl (w_ ++ [ouC k ao g]) _ := hP
  have hD : va_D A (w_ ++ [ouC k ao g]) := hD
  obtain ⟨v, rfl⟩ := hv _ _ hq
  cases v with
  | true =>
    refine lv_if_eq (tgt := 15) hx hb dX0_come_8 (by decide) (fun c1 => absurd c1 (by decide)) (fun _ => ?_)
    refine lv_lconst (v := (1 : Int64)) hx hb dX0_come_11 (by decide) ?_
    refine lv_goto (tgt := 16) hx hb dX0_come_12 (by decide) ?_
    refine va_last hx hb hK hP hD hS w_.length 3 (get_last _ _) rfl out_in dX0_come_16 (fun H locs hP hD hS => ?_)
    have hP : va_P D zCl ((w_ ++ [ouC k ao g]).set w_.length (ouC k ao (upO g (bzL true)))) _ := hP
    have hD : va_D A ((w_ ++ [ouC k ao g]).set w_.length (ouC k ao (upO g (bzL true)))) := hD
    rw [set_last] at hP hD
    refine lv_goto (tgt := 24) hx hb dX0_come_17 (by decide) ?_
    refine lv_iconst (v := (0 : Int32)) hx hb dX0_come_24 (by decide) ?_
    refine widX (by omega) (by omega) ?_
    exact vx_ret (retW_i hx hb hr hlocks hP hD hS (Or.inl ⟨true, w_, hq, by rw [← li0], rfl⟩) dX0_come_25)
  | false =>
    refine lv_if_eq (tgt := 15) hx hb dX0_come_8 (by decide) (fun _ => ?_) (fun c1 => absurd rfl c1)
    refine lv_lconst (v := (0 : Int64)) hx hb dX0_come_15 (by decide) ?_
    refine va_last hx hb hK hP hD hS w_.length 3 (get_last _ _) rfl out_in dX0_come_16 (fun H locs hP hD hS => ?_)
    have hP : va_P D zCl ((w_ ++ [ouC k ao g]).set w_.length (ouC k ao (upO g (bzL false)))) _ := hP
    have hD : va_D A ((w_ ++ [ouC k ao g]).set w_.length (ouC k ao (upO g (bzL false)))) := hD
    rw [set_last] at hP hD
    refine lv_goto (tgt := 24) hx hb dX0_come_17 (by decide) ?_
    refine lv_iconst (v := (0 : Int32)) hx hb dX0_come_24 (by decide) ?_
    refine widX (by omega) (by omega) ?_
    exact vx_ret (retW_i hx hb hr hlocks hP hD hS (Or.inl ⟨false, w_, hq, by rw [← li0], rfl⟩) dX0_come_25)
abbrev hhX0_days : List (Nat × Nat × Nat × Nat) := [(0, 9, 12, 13)]
theorem kX0_days {R : Room} {s : State} {args : Array Value} {own : String} {idx mc ms : Nat} {rm : Room} (hts : ∀ w ∈ lw_all, w.before args s = true) (hl : Cond.methodLink own idx yX0_days ∈ lw_all) (hrc : rm.cells = mc) (hrs : rm.slots = ms) (hR : rm.frames + 1 ≤ R.frames ∧ 8 + (4 + 11) + rm.locals ≤ R.locals) : vx_CSW R s args own idx yX0_days cX0_days 4 (some .int) hhX0_days (wsW_ yX0_days cX0_days 4 (some .int) hhX0_days) rm mc ms 3 :=
  vx_cwSW 3 hts (lw_SW hl q1699 q106 q1700) rfl hrc hrs (by decide +kernel) hR
set_option maxRecDepth 100000 in
theorem mtX0_days (l : Launch) (D : va_G) (k : Nat → ClassId) (Z : zZ) (hOK : zOK D zCl (zTys k) Z) (hNc : zNc Z) (ws : va_W) (g : Nat → Int64) (ao h : Nat) (fs : List Value) (hws : ws[0]? = some (h, .inr (1, fs))) (p1 : Int32) {P : Option Value → va_W → Prop} {PX : String → va_W → Prop} {rm : Room} {mc ms : Nat} (hrc : rm.cells = mc) (hrs : rm.slots = ms) (hM : CtX l yX1_days cX1_days 4 (some .int) rm Z D zCl ws [.ref h, .int p1] P PX mc ms) (hv : ∀ r w, P r w → ∃ v : Int32, r = some (.int v)) (hcd : ∀ E w, PX E w → ¬ cdA E = nI 0) : CtXH l yX0_days cX0_days 4 (some .int) hhX0_days (rW rm 4 mc ms) Z D zCl (ws ++ [ouC k ao g]) [.ref h, .int p1, .ref ao] (fun r' w' => (∃ (v : Int32) (w1 : va_W), P (some (.int v)) w1 ∧ r' = some (.int (nI 0)) ∧ w' = w1 ++ [ouC k ao (upO g v.toInt64)]) ∨ ∃ (E : String) (w1 : va_W), PX E w1 ∧ r' = some (.int (cdA E)) ∧ w' = w1 ++ [ouC k ao g]) (fun _ _ => False) mc ms := by
  refine CtXH.of (by decide) (Nat.le_of_ble_eq_true rfl) ?_
  intro p e9 s m args below meth c A hE htab hA hP hD hS hz ls hl
  obtain ⟨hx, hb, hr, hml, hown, hts, hlocks, hname⟩ := hE
  have hown : s.vm.findClass RX0 = some m.cls := hown
  have hK := hOK.1 _ _ _ hz
  have hN := hOK.2.1 _ _ _ hz
  have hl : lv_has ls 4 [(0, .ref h), (1, .int p1), (2, .ref ao)] := hl
  have hnc := hNc _ _ _ hz
  refine lv_aload_n hx hb dX0_days_0 rfl (lv_at hl 2 rfl) ?_
  refine lv_iconst (v := (0 : Int32)) hx hb dX0_days_1 (by decide) ?_
  refine lv_aload_n hx hb dX0_days_2 rfl (lv_at hl 0 rfl) ?_
  refine lv_iload_n hx hb dX0_days_3 rfl (lv_at hl 1 rfl) ?_
  have hP : va_P D zCl ([] ++ (ws ++ [ouC k ao g])) _ := hP
  have hD : va_D A ([] ++ (ws ++ [ouC k ao g])) := hD
  refine cXV [] ws [ouC k ao g] (As := [.int p1]) (ci := 1) ⟨hx, hb, hml, hown, hts⟩ hOK hz hS hA hP hD hM (kX1_days hts q1701 hrc hrs ⟨(by show rm.frames + 1 ≤ rm.frames + 1; omega), (by show 8 + (4 + 11) + rm.locals ≤ 8 + (4 + 11) + rm.locals; omega)⟩) 0 hws rfl rfl hl.1 rfl (lv_room (Nat.le_of_ble_eq_true rfl)) ⟨(by show 0 + mc ≤ mc; omega), (by show 0 + ms ≤ ms; omega)⟩ dX0_days_4 (fun E_ w_ ce_ q9_ H locs hq hP hD hS hce hcv hcl => ?_) (fun r_ w_ H locs hq hP hD hS => ?_)
  · have hcE := hcd _ _ hq
    have hP : va_P D zCl (w_ ++ [ouC k ao g]) _ := hP
    have hD : va_D A (w_ ++ [ouC k ao g]) := hD
    by_cases e0 : E_ = eA
    · subst e0
      refine vx_catch (own := RX0) (name := eA) hown [] ⟨0, 9, 12, 13⟩ [] (htab.trans rfl) (fun z hz9 => nomatch hz9) (by decide) (by decide) (hts _ q752) (va_Nw.use rfl (hN _ (zN_of q944 rfl))) hce hcv hcl ?_
      refine lv_astore_n (lv' := [(3, .ref q9_), (0, .ref h), (1, .int p1), (2, .ref ao)]) hx hb dX0_days_12 rfl hl (by decide) rfl (fun ls hl => ?_)
      refine lv_iconst (v := (1 : Int32)) hx hb dX0_days_13 (by decide) ?_
      refine widX (by omega) (by omega) ?_
      exact vx_ret (retW_i hx hb hr hlocks hP hD hS (Or.inr ⟨_, w_, hq, by rw [cdA_A, ← li1], rfl⟩) dX0_days_14)
    exact absurd (by unfold cdA; rw [if_neg e0]) hcE
  have hP : va_P D zCl (w_ ++ [ouC k ao g]) _ := hP
  have hD : va_D A (w_ ++ [ouC k ao g]) := hD
  obtain ⟨v, rfl⟩ := hv _ _ hq
  refine lv_i2l (v := v.toInt64) hx hb dX0_days_7 rfl ?_
  refine va_last hx hb hK hP hD hS w_.length 3 (get_last _ _) rfl out_in dX0_days_8 (fun H locs hP hD hS => ?_)
  have hP : va_P D zCl ((w_ ++ [ouC k ao g]).set w_.length (ouC k ao (upO g v.toInt64))) _ := hP
  have hD : va_D A ((w_ ++ [ouC k ao g]).set w_.length (ouC k ao (upO g v.toInt64))) := hD
  rw [set_last] at hP hD
  refine lv_goto (tgt := 15) hx hb dX0_days_9 (by decide) ?_
  refine lv_iconst (v := (0 : Int32)) hx hb dX0_days_15 (by decide) ?_
  refine widX (by omega) (by omega) ?_
  exact vx_ret (retW_i hx hb hr hlocks hP hD hS (Or.inl ⟨v, w_, hq, by rw [← li0], rfl⟩) dX0_days_16)
abbrev hhX0_first : List (Nat × Nat × Nat × Nat) := [(0, 10, 13, 24), (0, 10, 17, 13)]
theorem kX0_first {R : Room} {s : State} {args : Array Value} {own : String} {idx mc ms : Nat} {rm : Room} (hts : ∀ w ∈ lw_all, w.before args s = true) (hl : Cond.methodLink own idx yX0_first ∈ lw_all) (hrc : rm.cells = mc) (hrs : rm.slots = ms) (hR : rm.frames + 1 ≤ R.frames ∧ 8 + (5 + 11) + rm.locals ≤ R.locals) : vx_CSW R s args own idx yX0_first cX0_first 5 (some .int) hhX0_first (wsW_ yX0_first cX0_first 5 (some .int) hhX0_first) rm mc ms 4 :=
  vx_cwSW 4 hts (lw_SW hl q1740 q106 q1741) rfl hrc hrs (by decide +kernel) hR
set_option maxRecDepth 100000 in
theorem mtX0_first (l : Launch) (D : va_G) (k : Nat → ClassId) (Z : zZ) (hOK : zOK D zCl (zTys k) Z) (hNc : zNc Z) (ws : va_W) (g : Nat → Int64) (ao h : Nat) (fs : List Value) (hws : ws[0]? = some (h, .inr (1, fs))) (p1 : Int32) (p2 : Int32) {P : Option Value → va_W → Prop} {PX : String → va_W → Prop} {rm : Room} {mc ms : Nat} (hrc : rm.cells = mc) (hrs : rm.slots = ms) (hM : CtX l yX1_first cX1_first 4 (some .int) rm Z D zCl ws [.ref h, .int p1, .int p2] P PX mc ms) (hv : ∀ r w, P r w → ∃ v : Int32, r = some (.int v)) (hcd : ∀ E w, PX E w → ¬ cdIA E = nI 0) : CtXH l yX0_first cX0_first 5 (some .int) hhX0_first (rW rm 4 mc ms) Z D zCl (ws ++ [ouC k ao g]) [.ref h, .int p1, .int p2, .ref ao] (fun r' w' => (∃ (v : Int32) (w1 : va_W), P (some (.int v)) w1 ∧ r' = some (.int (nI 0)) ∧ w' = w1 ++ [ouC k ao (upO g v.toInt64)]) ∨ ∃ (E : String) (w1 : va_W), PX E w1 ∧ r' = some (.int (cdIA E)) ∧ w' = w1 ++ [ouC k ao g]) (fun _ _ => False) mc ms := by
  refine CtXH.of (by decide) (Nat.le_of_ble_eq_true rfl) ?_
  intro p e9 s m args below meth c A hE htab hA hP hD hS hz ls hl
  obtain ⟨hx, hb, hr, hml, hown, hts, hlocks, hname⟩ := hE
  have hown : s.vm.findClass RX0 = some m.cls := hown
  have hK := hOK.1 _ _ _ hz
  have hN := hOK.2.1 _ _ _ hz
  have hl : lv_has ls 5 [(0, .ref h), (1, .int p1), (2, .int p2), (3, .ref ao)] := hl
  have hnc := hNc _ _ _ hz
  refine lv_aload_n hx hb dX0_first_0 rfl (lv_at hl 3 rfl) ?_
  refine lv_iconst (v := (0 : Int32)) hx hb dX0_first_1 (by decide) ?_
  refine lv_aload_n hx hb dX0_first_2 rfl (lv_at hl 0 rfl) ?_
  refine lv_iload_n hx hb dX0_first_3 rfl (lv_at hl 1 rfl) ?_
  refine lv_iload_n hx hb dX0_first_4 rfl (lv_at hl 2 rfl) ?_
  have hP : va_P D zCl ([] ++ (ws ++ [ouC k ao g])) _ := hP
  have hD : va_D A ([] ++ (ws ++ [ouC k ao g])) := hD
  refine cXV [] ws [ouC k ao g] (As := [.int p1, .int p2]) (ci := 1) ⟨hx, hb, hml, hown, hts⟩ hOK hz hS hA hP hD hM (kX1_first hts q1742 hrc hrs ⟨(by show rm.frames + 1 ≤ rm.frames + 1; omega), (by show 8 + (4 + 11) + rm.locals ≤ 8 + (4 + 11) + rm.locals; omega)⟩) 0 hws rfl rfl hl.1 rfl (lv_room (Nat.le_of_ble_eq_true rfl)) ⟨(by show 0 + mc ≤ mc; omega), (by show 0 + ms ≤ ms; omega)⟩ dX0_first_5 (fun E_ w_ ce_ q9_ H locs hq hP hD hS hce hcv hcl => ?_) (fun r_ w_ H locs hq hP hD hS => ?_)
  · have hcE := hcd _ _ hq
    have hP : va_P D zCl (w_ ++ [ouC k ao g]) _ := hP
    have hD : va_D A (w_ ++ [ouC k ao g]) := hD
    by_cases e0 : E_ = eI
    · subst e0
      refine vx_catch (own := RX0) (name := eI) hown [] ⟨0, 10, 13, 24⟩ [⟨0, 10, 17, 13⟩] (htab.trans rfl) (fun z hz9 => nomatch hz9) (by decide) (by decide) (hts _ q1528) (va_Nw.use rfl (hN _ (zN_of q1561 rfl))) hce hcv hcl ?_
      refine lv_astore (lv' := [(4, .ref q9_), (0, .ref h), (1, .int p1), (2, .int p2), (3, .ref ao)]) hx hb dX0_first_13 hl (by decide) rfl (fun ls hl => ?_)
      refine lv_iconst (v := (1 : Int32)) hx hb dX0_first_15 (by decide) ?_
      refine widX (by omega) (by omega) ?_
      exact vx_ret (retW_i hx hb hr hlocks hP hD hS (Or.inr ⟨_, w_, hq, by rw [cdIA_I, ← li1], rfl⟩) dX0_first_16)
    by_cases e1 : E_ = eA
    · subst e1
      refine vx_catch (own := RX0) (name := eA) hown [⟨0, 10, 13, 24⟩] ⟨0, 10, 17, 13⟩ [] (htab.trans rfl) (fun z hz9 => by rw [List.mem_singleton.mp hz9]; exact Or.inr ⟨by decide, _, hts _ q1528, hnc.2.2.1⟩) (by decide) (by decide) (hts _ q752) (va_Nw.use rfl (hN _ (zN_of q944 rfl))) hce hcv hcl ?_
      refine lv_astore (lv' := [(4, .ref q9_), (0, .ref h), (1, .int p1), (2, .int p2), (3, .ref ao)]) hx hb dX0_first_17 hl (by decide) rfl (fun ls hl => ?_)
      refine lv_iconst (v := (2 : Int32)) hx hb dX0_first_19 (by decide) ?_
      refine widX (by omega) (by omega) ?_
      exact vx_ret (retW_i hx hb hr hlocks hP hD hS (Or.inr ⟨_, w_, hq, by rw [cdIA_A, ← li2], rfl⟩) dX0_first_20)
    exact absurd (by unfold cdIA; rw [if_neg e0, if_neg e1]) hcE
  have hP : va_P D zCl (w_ ++ [ouC k ao g]) _ := hP
  have hD : va_D A (w_ ++ [ouC k ao g]) := hD
  obtain ⟨v, rfl⟩ := hv _ _ hq
  refine lv_i2l (v := v.toInt64) hx hb dX0_first_8 rfl ?_
  refine va_last hx hb hK hP hD hS w_.length 3 (get_last _ _) rfl out_in dX0_first_9 (fun H locs hP hD hS => ?_)
  have hP : va_P D zCl ((w_ ++ [ouC k ao g]).set w_.length (ouC k ao (upO g v.toInt64))) _ := hP
  have hD : va_D A ((w_ ++ [ouC k ao g]).set w_.length (ouC k ao (upO g v.toInt64))) := hD
  rw [set_last] at hP hD
  refine lv_goto (tgt := 21) hx hb dX0_first_10 (by decide) ?_
  refine lv_iconst (v := (0 : Int32)) hx hb dX0_first_21 (by decide) ?_
  refine widX (by omega) (by omega) ?_
  exact vx_ret (retW_i hx hb hr hlocks hP hD hS (Or.inl ⟨v, w_, hq, by rw [← li0], rfl⟩) dX0_first_22)
abbrev hhX0_go : List (Nat × Nat × Nat × Nat) := [(0, 10, 13, 24)]
theorem kX0_go {R : Room} {s : State} {args : Array Value} {own : String} {idx mc ms : Nat} {rm : Room} (hts : ∀ w ∈ lw_all, w.before args s = true) (hl : Cond.methodLink own idx yX0_go ∈ lw_all) (hrc : rm.cells = mc) (hrs : rm.slots = ms) (hR : rm.frames + 1 ≤ R.frames ∧ 8 + (5 + 11) + rm.locals ≤ R.locals) : vx_CSW R s args own idx yX0_go cX0_go 5 (some .int) hhX0_go (wsW_ yX0_go cX0_go 5 (some .int) hhX0_go) rm mc ms 4 :=
  vx_cwSW 4 hts (lw_SW hl q1631 q106 q1632) rfl hrc hrs (by decide +kernel) hR
set_option maxRecDepth 100000 in
theorem mtX0_go (l : Launch) (D : va_G) (k : Nat → ClassId) (Z : zZ) (hOK : zOK D zCl (zTys k) Z) (hNc : zNc Z) (ws : va_W) (g : Nat → Int64) (ao h : Nat) (fs : List Value) (hws : ws[0]? = some (h, .inr (1, fs))) (p1 : Int32) (p2 : Int32) {P : Option Value → va_W → Prop} {PX : String → va_W → Prop} {rm : Room} {mc ms : Nat} (hrc : rm.cells = mc) (hrs : rm.slots = ms) (hM : CtX l yX1_go cX1_go 4 (some .int) rm Z D zCl ws [.ref h, .int p1, .int p2] P PX mc ms) (hv : ∀ r w, P r w → ∃ v : Int32, r = some (.int v)) (hcd : ∀ E w, PX E w → ¬ cdI E = nI 0) : CtXH l yX0_go cX0_go 5 (some .int) hhX0_go (rW rm 4 mc ms) Z D zCl (ws ++ [ouC k ao g]) [.ref h, .int p1, .int p2, .ref ao] (fun r' w' => (∃ (v : Int32) (w1 : va_W), P (some (.int v)) w1 ∧ r' = some (.int (nI 0)) ∧ w' = w1 ++ [ouC k ao (upO g v.toInt64)]) ∨ ∃ (E : String) (w1 : va_W), PX E w1 ∧ r' = some (.int (cdI E)) ∧ w' = w1 ++ [ouC k ao g]) (fun _ _ => False) mc ms := by
  refine CtXH.of (by decide) (Nat.le_of_ble_eq_true rfl) ?_
  intro p e9 s m args below meth c A hE htab hA hP hD hS hz ls hl
  obtain ⟨hx, hb, hr, hml, hown, hts, hlocks, hname⟩ := hE
  have hown : s.vm.findClass RX0 = some m.cls := hown
  have hK := hOK.1 _ _ _ hz
  have hN := hOK.2.1 _ _ _ hz
  have hl : lv_has ls 5 [(0, .ref h), (1, .int p1), (2, .int p2), (3, .ref ao)] := hl
  have hnc := hNc _ _ _ hz
  refine lv_aload_n hx hb dX0_go_0 rfl (lv_at hl 3 rfl) ?_
  refine lv_iconst (v := (0 : Int32)) hx hb dX0_go_1 (by decide) ?_
  refine lv_aload_n hx hb dX0_go_2 rfl (lv_at hl 0 rfl) ?_
  refine lv_iload_n hx hb dX0_go_3 rfl (lv_at hl 1 rfl) ?_
  refine lv_iload_n hx hb dX0_go_4 rfl (lv_at hl 2 rfl) ?_
  have hP : va_P D zCl ([] ++ (ws ++ [ouC k ao g])) _ := hP
  have hD : va_D A ([] ++ (ws ++ [ouC k ao g])) := hD
  refine cXV [] ws [ouC k ao g] (As := [.int p1, .int p2]) (ci := 1) ⟨hx, hb, hml, hown, hts⟩ hOK hz hS hA hP hD hM (kX1_go hts q1633 hrc hrs ⟨(by show rm.frames + 1 ≤ rm.frames + 1; omega), (by show 8 + (4 + 11) + rm.locals ≤ 8 + (4 + 11) + rm.locals; omega)⟩) 0 hws rfl rfl hl.1 rfl (lv_room (Nat.le_of_ble_eq_true rfl)) ⟨(by show 0 + mc ≤ mc; omega), (by show 0 + ms ≤ ms; omega)⟩ dX0_go_5 (fun E_ w_ ce_ q9_ H locs hq hP hD hS hce hcv hcl => ?_) (fun r_ w_ H locs hq hP hD hS => ?_)
  · have hcE := hcd _ _ hq
    have hP : va_P D zCl (w_ ++ [ouC k ao g]) _ := hP
    have hD : va_D A (w_ ++ [ouC k ao g]) := hD
    by_cases e0 : E_ = eI
    · subst e0
      refine vx_catch (own := RX0) (name := eI) hown [] ⟨0, 10, 13, 24⟩ [] (htab.trans rfl) (fun z hz9 => nomatch hz9) (by decide) (by decide) (hts _ q1528) (va_Nw.use rfl (hN _ (zN_of q1561 rfl))) hce hcv hcl ?_
      refine lv_astore (lv' := [(4, .ref q9_), (0, .ref h), (1, .int p1), (2, .int p2), (3, .ref ao)]) hx hb dX0_go_13 hl (by decide) rfl (fun ls hl => ?_)
      refine lv_iconst (v := (1 : Int32)) hx hb dX0_go_15 (by decide) ?_
      refine widX (by omega) (by omega) ?_
      exact vx_ret (retW_i hx hb hr hlocks hP hD hS (Or.inr ⟨_, w_, hq, by rw [cdI_I, ← li1], rfl⟩) dX0_go_16)
    exact absurd (by unfold cdI; rw [if_neg e0]) hcE
  have hP : va_P D zCl (w_ ++ [ouC k ao g]) _ := hP
  have hD : va_D A (w_ ++ [ouC k ao g]) := hD
  obtain ⟨v, rfl⟩ := hv _ _ hq
  refine lv_i2l (v := v.toInt64) hx hb dX0_go_8 rfl ?_
  refine va_last hx hb hK hP hD hS w_.length 3 (get_last _ _) rfl out_in dX0_go_9 (fun H locs hP hD hS => ?_)
  have hP : va_P D zCl ((w_ ++ [ouC k ao g]).set w_.length (ouC k ao (upO g v.toInt64))) _ := hP
  have hD : va_D A ((w_ ++ [ouC k ao g]).set w_.length (ouC k ao (upO g v.toInt64))) := hD
  rw [set_last] at hP hD
  refine lv_goto (tgt := 17) hx hb dX0_go_10 (by decide) ?_
  refine lv_iconst (v := (0 : Int32)) hx hb dX0_go_17 (by decide) ?_
  refine widX (by omega) (by omega) ?_
  exact vx_ret (retW_i hx hb hr hlocks hP hD hS (Or.inl ⟨v, w_, hq, by rw [← li0], rfl⟩) dX0_go_18)
abbrev hhX0_guest : List (Nat × Nat × Nat × Nat) := [(0, 10, 13, 24), (0, 10, 17, 26)]
theorem kX0_guest {R : Room} {s : State} {args : Array Value} {own : String} {idx mc ms : Nat} {rm : Room} (hts : ∀ w ∈ lw_all, w.before args s = true) (hl : Cond.methodLink own idx yX0_guest ∈ lw_all) (hrc : rm.cells = mc) (hrs : rm.slots = ms) (hR : rm.frames + 1 ≤ R.frames ∧ 8 + (5 + 11) + rm.locals ≤ R.locals) : vx_CSW R s args own idx yX0_guest cX0_guest 5 (some .int) hhX0_guest (wsW_ yX0_guest cX0_guest 5 (some .int) hhX0_guest) rm mc ms 4 :=
  vx_cwSW 4 hts (lw_SW hl q1526 q106 q1527) rfl hrc hrs (by decide +kernel) hR
set_option maxRecDepth 100000 in
theorem mtX0_guest (l : Launch) (D : va_G) (k : Nat → ClassId) (Z : zZ) (hOK : zOK D zCl (zTys k) Z) (hNc : zNc Z) (ws : va_W) (g : Nat → Int64) (ao h : Nat) (fs : List Value) (hws : ws[0]? = some (h, .inr (1, fs))) (p1 : Int32) (p2 : Int32) {P : Option Value → va_W → Prop} {PX : String → va_W → Prop} {rm : Room} {mc ms : Nat} (hrc : rm.cells = mc) (hrs : rm.slots = ms) (hM : CtX l yX1_guest cX1_guest 4 (some .int) rm Z D zCl ws [.ref h, .int p1, .int p2] P PX mc ms) (hv : ∀ r w, P r w → ∃ v : Int32, r = some (.int v)) (hcd : ∀ E w, PX E w → ¬ cdIN E = nI 0) : CtXH l yX0_guest cX0_guest 5 (some .int) hhX0_guest (rW rm 4 mc ms) Z D zCl (ws ++ [ouC k ao g]) [.ref h, .int p1, .int p2, .ref ao] (fun r' w' => (∃ (v : Int32) (w1 : va_W), P (some (.int v)) w1 ∧ r' = some (.int (nI 0)) ∧ w' = w1 ++ [ouC k ao (upO g v.toInt64)]) ∨ ∃ (E : String) (w1 : va_W), PX E w1 ∧ r' = some (.int (cdIN E)) ∧ w' = w1 ++ [ouC k ao g]) (fun _ _ => False) mc ms := by
  refine CtXH.of (by decide) (Nat.le_of_ble_eq_true rfl) ?_
  intro p e9 s m args below meth c A hE htab hA hP hD hS hz ls hl
  obtain ⟨hx, hb, hr, hml, hown, hts, hlocks, hname⟩ := hE
  have hown : s.vm.findClass RX0 = some m.cls := hown
  have hK := hOK.1 _ _ _ hz
  have hN := hOK.2.1 _ _ _ hz
  have hl : lv_has ls 5 [(0, .ref h), (1, .int p1), (2, .int p2), (3, .ref ao)] := hl
  have hnc := hNc _ _ _ hz
  refine lv_aload_n hx hb dX0_guest_0 rfl (lv_at hl 3 rfl) ?_
  refine lv_iconst (v := (0 : Int32)) hx hb dX0_guest_1 (by decide) ?_
  refine lv_aload_n hx hb dX0_guest_2 rfl (lv_at hl 0 rfl) ?_
  refine lv_iload_n hx hb dX0_guest_3 rfl (lv_at hl 1 rfl) ?_
  refine lv_iload_n hx hb dX0_guest_4 rfl (lv_at hl 2 rfl) ?_
  have hP : va_P D zCl ([] ++ (ws ++ [ouC k ao g])) _ := hP
  have hD : va_D A ([] ++ (ws ++ [ouC k ao g])) := hD
  refine cXV [] ws [ouC k ao g] (As := [.int p1, .int p2]) (ci := 1) ⟨hx, hb, hml, hown, hts⟩ hOK hz hS hA hP hD hM (kX1_guest hts q1548 hrc hrs ⟨(by show rm.frames + 1 ≤ rm.frames + 1; omega), (by show 8 + (4 + 11) + rm.locals ≤ 8 + (4 + 11) + rm.locals; omega)⟩) 0 hws rfl rfl hl.1 rfl (lv_room (Nat.le_of_ble_eq_true rfl)) ⟨(by show 0 + mc ≤ mc; omega), (by show 0 + ms ≤ ms; omega)⟩ dX0_guest_5 (fun E_ w_ ce_ q9_ H locs hq hP hD hS hce hcv hcl => ?_) (fun r_ w_ H locs hq hP hD hS => ?_)
  · have hcE := hcd _ _ hq
    have hP : va_P D zCl (w_ ++ [ouC k ao g]) _ := hP
    have hD : va_D A (w_ ++ [ouC k ao g]) := hD
    by_cases e0 : E_ = eI
    · subst e0
      refine vx_catch (own := RX0) (name := eI) hown [] ⟨0, 10, 13, 24⟩ [⟨0, 10, 17, 26⟩] (htab.trans rfl) (fun z hz9 => nomatch hz9) (by decide) (by decide) (hts _ q1528) (va_Nw.use rfl (hN _ (zN_of q1561 rfl))) hce hcv hcl ?_
      refine lv_astore (lv' := [(4, .ref q9_), (0, .ref h), (1, .int p1), (2, .int p2), (3, .ref ao)]) hx hb dX0_guest_13 hl (by decide) rfl (fun ls hl => ?_)
      refine lv_iconst (v := (1 : Int32)) hx hb dX0_guest_15 (by decide) ?_
      refine widX (by omega) (by omega) ?_
      exact vx_ret (retW_i hx hb hr hlocks hP hD hS (Or.inr ⟨_, w_, hq, by rw [cdIN_I, ← li1], rfl⟩) dX0_guest_16)
    by_cases e1 : E_ = eN
    · subst e1
      refine vx_catch (own := RX0) (name := eN) hown [⟨0, 10, 13, 24⟩] ⟨0, 10, 17, 26⟩ [] (htab.trans rfl) (fun z hz9 => by rw [List.mem_singleton.mp hz9]; exact Or.inr ⟨by decide, _, hts _ q1528, hnc.2.1⟩) (by decide) (by decide) (hts _ q1547) (va_Nw.use rfl (hN _ (zN_of q1579 rfl))) hce hcv hcl ?_
      refine lv_astore (lv' := [(4, .ref q9_), (0, .ref h), (1, .int p1), (2, .int p2), (3, .ref ao)]) hx hb dX0_guest_17 hl (by decide) rfl (fun ls hl => ?_)
      refine lv_iconst (v := (2 : Int32)) hx hb dX0_guest_19 (by decide) ?_
      refine widX (by omega) (by omega) ?_
      exact vx_ret (retW_i hx hb hr hlocks hP hD hS (Or.inr ⟨_, w_, hq, by rw [cdIN_N, ← li2], rfl⟩) dX0_guest_20)
    exact absurd (by unfold cdIN; rw [if_neg e0, if_neg e1]) hcE
  have hP : va_P D zCl (w_ ++ [ouC k ao g]) _ := hP
  have hD : va_D A (w_ ++ [ouC k ao g]) := hD
  obtain ⟨v, rfl⟩ := hv _ _ hq
  refine lv_i2l (v := v.toInt64) hx hb dX0_guest_8 rfl ?_
  refine va_last hx hb hK hP hD hS w_.length 3 (get_last _ _) rfl out_in dX0_guest_9 (fun H locs hP hD hS => ?_)
  have hP : va_P D zCl ((w_ ++ [ouC k ao g]).set w_.length (ouC k ao (upO g v.toInt64))) _ := hP
  have hD : va_D A ((w_ ++ [ouC k ao g]).set w_.length (ouC k ao (upO g v.toInt64))) := hD
  rw [set_last] at hP hD
  refine lv_goto (tgt := 21) hx hb dX0_guest_10 (by decide) ?_
  refine lv_iconst (v := (0 : Int32)) hx hb dX0_guest_21 (by decide) ?_
  refine widX (by omega) (by omega) ?_
  exact vx_ret (retW_i hx hb hr hlocks hP hD hS (Or.inl ⟨v, w_, hq, by rw [← li0], rfl⟩) dX0_guest_22)
abbrev hhX0_hole : List (Nat × Nat × Nat × Nat) := [(0, 19, 22, 24), (0, 19, 26, 13)]
theorem kX0_hole {R : Room} {s : State} {args : Array Value} {own : String} {idx mc ms : Nat} {rm : Room} (hts : ∀ w ∈ lw_all, w.before args s = true) (hl : Cond.methodLink own idx yX0_hole ∈ lw_all) (hrc : rm.cells = mc) (hrs : rm.slots = ms) (hR : rm.frames + 1 ≤ R.frames ∧ 8 + (6 + 11) + rm.locals ≤ R.locals) : vx_CSW R s args own idx yX0_hole cX0_hole 6 (some .int) hhX0_hole (wsW_ yX0_hole cX0_hole 6 (some .int) hhX0_hole) rm mc ms 5 :=
  vx_cwSW 5 hts (lw_SW hl q1656 q106 q1657) rfl hrc hrs (by decide +kernel) hR
set_option maxRecDepth 100000 in
theorem mtX0_hole (l : Launch) (D : va_G) (k : Nat → ClassId) (Z : zZ) (hOK : zOK D zCl (zTys k) Z) (hNc : zNc Z) (ws : va_W) (g : Nat → Int64) (ao h : Nat) (fs : List Value) (hws : ws[0]? = some (h, .inr (1, fs))) (p1 : Int32) (p2 : Int32) (p3 : Bool) {P : Option Value → va_W → Prop} {PX : String → va_W → Prop} {rm : Room} {mc ms : Nat} (hrc : rm.cells = mc) (hrs : rm.slots = ms) (hM : CtX l yX1_hole cX1_hole 6 (some .boolean) rm Z D zCl ws [.ref h, .int p1, .int p2, .int (bz p3)] P PX mc ms) (hv : ∀ r w, P r w → ∃ v : Bool, r = some (.int (bz v))) (hcd : ∀ E w, PX E w → ¬ cdIA E = nI 0) : CtXH l yX0_hole cX0_hole 6 (some .int) hhX0_hole (rW rm 6 mc ms) Z D zCl (ws ++ [ouC k ao g]) [.ref h, .int p1, .int p2, .int (bz p3), .ref ao] (fun r' w' => (∃ (v : Bool) (w1 : va_W), P (some (.int (bz v))) w1 ∧ r' = some (.int (nI 0)) ∧ w' = w1 ++ [ouC k ao (upO g (bzL v))]) ∨ ∃ (E : String) (w1 : va_W), PX E w1 ∧ r' = some (.int (cdIA E)) ∧ w' = w1 ++ [ouC k ao g]) (fun _ _ => False) mc ms := by
  refine CtXH.of (by decide) (Nat.le_of_ble_eq_true rfl) ?_
  intro p e9 s m args below meth c A hE htab hA hP hD hS hz ls hl
  obtain ⟨hx, hb, hr, hml, hown, hts, hlocks, hname⟩ := hE
  have hown : s.vm.findClass RX0 = some m.cls := hown
  have hK := hOK.1 _ _ _ hz
  have hN := hOK.2.1 _ _ _ hz
  have hl : lv_has ls 6 [(0, .ref h), (1, .int p1), (2, .int p2), (3, .int (bz p3)), (4, .ref ao)] := hl
  have hnc := hNc _ _ _ hz
  refine lv_aload hx hb dX0_hole_0 (lv_at hl 4 rfl) ?_
  refine lv_iconst (v := (0 : Int32)) hx hb dX0_hole_2 (by decide) ?_
  refine lv_aload_n hx hb dX0_hole_3 rfl (lv_at hl 0 rfl) ?_
  refine lv_iload_n hx hb dX0_hole_4 rfl (lv_at hl 1 rfl) ?_
  refine lv_iload_n hx hb dX0_hole_5 rfl (lv_at hl 2 rfl) ?_
  refine lv_iload_n hx hb dX0_hole_6 rfl (lv_at hl 3 rfl) ?_
  have hP : va_P D zCl ([] ++ (ws ++ [ouC k ao g])) _ := hP
  have hD : va_D A ([] ++ (ws ++ [ouC k ao g])) := hD
  refine cXV [] ws [ouC k ao g] (As := [.int p1, .int p2, .int (bz p3)]) (ci := 1) ⟨hx, hb, hml, hown, hts⟩ hOK hz hS hA hP hD hM (kX1_hole hts q1658 hrc hrs ⟨(by show rm.frames + 1 ≤ rm.frames + 1; omega), (by show 8 + (6 + 11) + rm.locals ≤ 8 + (6 + 11) + rm.locals; omega)⟩) 0 hws rfl rfl hl.1 rfl (lv_room (Nat.le_of_ble_eq_true rfl)) ⟨(by show 0 + mc ≤ mc; omega), (by show 0 + ms ≤ ms; omega)⟩ dX0_hole_7 (fun E_ w_ ce_ q9_ H locs hq hP hD hS hce hcv hcl => ?_) (fun r_ w_ H locs hq hP hD hS => ?_)
  · have hcE := hcd _ _ hq
    have hP : va_P D zCl (w_ ++ [ouC k ao g]) _ := hP
    have hD : va_D A (w_ ++ [ouC k ao g]) := hD
    by_cases e0 : E_ = eI
    · subst e0
      refine vx_catch (own := RX0) (name := eI) hown [] ⟨0, 19, 22, 24⟩ [⟨0, 19, 26, 13⟩] (htab.trans rfl) (fun z hz9 => nomatch hz9) (by decide) (by decide) (hts _ q1528) (va_Nw.use rfl (hN _ (zN_of q1561 rfl))) hce hcv hcl ?_
      refine lv_astore (lv' := [(5, .ref q9_), (0, .ref h), (1, .int p1), (2, .int p2), (3, .int (bz p3)), (4, .ref ao)]) hx hb dX0_hole_22 hl (by decide) rfl (fun ls hl => ?_)
      refine lv_iconst (v := (1 : Int32)) hx hb dX0_hole_24 (by decide) ?_
      refine widX (by omega) (by omega) ?_
      exact vx_ret (retW_i hx hb hr hlocks hP hD hS (Or.inr ⟨_, w_, hq, by rw [cdIA_I, ← li1], rfl⟩) dX0_hole_25)
    by_cases e1 : E_ = eA
    · subst e1
      refine vx_catch (own := RX0) (name := eA) hown [⟨0, 19, 22, 24⟩] ⟨0, 19, 26, 13⟩ [] (htab.trans rfl) (fun z hz9 => by rw [List.mem_singleton.mp hz9]; exact Or.inr ⟨by decide, _, hts _ q1528, hnc.2.2.1⟩) (by decide) (by decide) (hts _ q752) (va_Nw.use rfl (hN _ (zN_of q944 rfl))) hce hcv hcl ?_
      refine lv_astore (lv' := [(5, .ref q9_), (0, .ref h), (1, .int p1), (2, .int p2), (3, .int (bz p3)), (4, .ref ao)]) hx hb dX0_hole_26 hl (by decide) rfl (fun ls hl => ?_)
      refine lv_iconst (v := (2 : Int32)) hx hb dX0_hole_28 (by decide) ?_
      refine widX (by omega) (by omega) ?_
      exact vx_ret (retW_i hx hb hr hlocks hP hD hS (Or.inr ⟨_, w_, hq, by rw [cdIA_A, ← li2], rfl⟩) dX0_hole_29)
    exact absurd (by unfold cdIA; rw [if_neg e0, if_neg e1]) hcE
  have hP : va_P D zCl (w_ ++ [ouC k ao g]) _ := hP
  have hD : va_D A (w_ ++ [ouC k ao g]) := hD
  obtain ⟨v, rfl⟩ := hv _ _ hq
  cases v with
  | true =>
    refine lv_if_eq (tgt := 17) hx hb dX0_hole_10 (by decide) (fun c1 => absurd c1 (by decide)) (fun _ => ?_)
    refine lv_lconst (v := (1 : Int64)) hx hb dX0_hole_13 (by decide) ?_
    refine lv_goto (tgt := 18) hx hb dX0_hole_14 (by decide) ?_
    refine va_last hx hb hK hP hD hS w_.length 3 (get_last _ _) rfl out_in dX0_hole_18 (fun H locs hP hD hS => ?_)
    have hP : va_P D zCl ((w_ ++ [ouC k ao g]).set w_.length (ouC k ao (upO g (bzL true)))) _ := hP
    have hD : va_D A ((w_ ++ [ouC k ao g]).set w_.length (ouC k ao (upO g (bzL true)))) := hD
    rw [set_last] at hP hD
    refine lv_goto (tgt := 30) hx hb dX0_hole_19 (by decide) ?_
    refine lv_iconst (v := (0 : Int32)) hx hb dX0_hole_30 (by decide) ?_
    refine widX (by omega) (by omega) ?_
    exact vx_ret (retW_i hx hb hr hlocks hP hD hS (Or.inl ⟨true, w_, hq, by rw [← li0], rfl⟩) dX0_hole_31)
  | false =>
    refine lv_if_eq (tgt := 17) hx hb dX0_hole_10 (by decide) (fun _ => ?_) (fun c1 => absurd rfl c1)
    refine lv_lconst (v := (0 : Int64)) hx hb dX0_hole_17 (by decide) ?_
    refine va_last hx hb hK hP hD hS w_.length 3 (get_last _ _) rfl out_in dX0_hole_18 (fun H locs hP hD hS => ?_)
    have hP : va_P D zCl ((w_ ++ [ouC k ao g]).set w_.length (ouC k ao (upO g (bzL false)))) _ := hP
    have hD : va_D A ((w_ ++ [ouC k ao g]).set w_.length (ouC k ao (upO g (bzL false)))) := hD
    rw [set_last] at hP hD
    refine lv_goto (tgt := 30) hx hb dX0_hole_19 (by decide) ?_
    refine lv_iconst (v := (0 : Int32)) hx hb dX0_hole_30 (by decide) ?_
    refine widX (by omega) (by omega) ?_
    exact vx_ret (retW_i hx hb hr hlocks hP hD hS (Or.inl ⟨false, w_, hq, by rw [← li0], rfl⟩) dX0_hole_31)
abbrev hhX0_house : List (Nat × Nat × Nat × Nat) := [(0, 8, 11, 13), (0, 8, 14, 15)]
theorem kX0_house {R : Room} {s : State} {args : Array Value} {own : String} {idx mc ms : Nat} {rm : Room} (hts : ∀ w ∈ lw_all, w.before args s = true) (hl : Cond.methodLink own idx yX0_house ∈ lw_all) (hrc : rm.cells = mc) (hrs : rm.slots = ms) (hR : rm.frames + 1 ≤ R.frames ∧ 8 + (3 + 11) + rm.locals ≤ R.locals) : vx_CSW R s args own idx yX0_house cX0_house 3 (some .int) hhX0_house (wsW_ yX0_house cX0_house 3 (some .int) hhX0_house) rm mc ms 2 :=
  vx_cwSW 2 hts (lw_SW hl q750 q106 q751) rfl hrc hrs (by decide +kernel) hR
set_option maxRecDepth 100000 in
theorem mtX0_house (l : Launch) (D : va_G) (k : Nat → ClassId) (Z : zZ) (hOK : zOK D zCl (zTys k) Z) (hNc : zNc Z) (ws : va_W) (g : Nat → Int64) (ao h : Nat) (fs : List Value) (hws : ws[0]? = some (h, .inr (1, fs))) {P : Option Value → va_W → Prop} {PX : String → va_W → Prop} {rm : Room} {mc ms : Nat} (hrc : rm.cells = mc) (hrs : rm.slots = ms) (hM : CtXH l yX1_house cX1_house 2 (some .int) hhX1_house rm Z D zCl ws [.ref h] P PX mc ms) (hv : ∀ r w, P r w → ∃ v : Int32, r = some (.int v)) (hcd : ∀ E w, PX E w → ¬ cdAU E = nI 0) : CtXH l yX0_house cX0_house 3 (some .int) hhX0_house (rW rm 2 mc ms) Z D zCl (ws ++ [ouC k ao g]) [.ref h, .ref ao] (fun r' w' => (∃ (v : Int32) (w1 : va_W), P (some (.int v)) w1 ∧ r' = some (.int (nI 0)) ∧ w' = w1 ++ [ouC k ao (upO g v.toInt64)]) ∨ ∃ (E : String) (w1 : va_W), PX E w1 ∧ r' = some (.int (cdAU E)) ∧ w' = w1 ++ [ouC k ao g]) (fun _ _ => False) mc ms := by
  refine CtXH.of (by decide) (Nat.le_of_ble_eq_true rfl) ?_
  intro p e9 s m args below meth c A hE htab hA hP hD hS hz ls hl
  obtain ⟨hx, hb, hr, hml, hown, hts, hlocks, hname⟩ := hE
  have hown : s.vm.findClass RX0 = some m.cls := hown
  have hK := hOK.1 _ _ _ hz
  have hN := hOK.2.1 _ _ _ hz
  have hl : lv_has ls 3 [(0, .ref h), (1, .ref ao)] := hl
  have hnc := hNc _ _ _ hz
  refine lv_aload_n hx hb dX0_house_0 rfl (lv_at hl 1 rfl) ?_
  refine lv_iconst (v := (0 : Int32)) hx hb dX0_house_1 (by decide) ?_
  refine lv_aload_n hx hb dX0_house_2 rfl (lv_at hl 0 rfl) ?_
  have hP : va_P D zCl ([] ++ (ws ++ [ouC k ao g])) _ := hP
  have hD : va_D A ([] ++ (ws ++ [ouC k ao g])) := hD
  refine cXVH [] ws [ouC k ao g] (As := []) (ci := 1) ⟨hx, hb, hml, hown, hts⟩ hOK hz hS hA hP hD hM (kX1_house hts q754 hrc hrs ⟨(by show rm.frames + 1 ≤ rm.frames + 1; omega), (by show 8 + (2 + 11) + rm.locals ≤ 8 + (2 + 11) + rm.locals; omega)⟩) 0 hws rfl rfl hl.1 rfl (lv_room (Nat.le_of_ble_eq_true rfl)) ⟨(by show 0 + mc ≤ mc; omega), (by show 0 + ms ≤ ms; omega)⟩ dX0_house_3 (fun E_ w_ ce_ q9_ H locs hq hP hD hS hce hcv hcl => ?_) (fun r_ w_ H locs hq hP hD hS => ?_)
  · have hcE := hcd _ _ hq
    have hP : va_P D zCl (w_ ++ [ouC k ao g]) _ := hP
    have hD : va_D A (w_ ++ [ouC k ao g]) := hD
    by_cases e0 : E_ = eA
    · subst e0
      refine vx_catch (own := RX0) (name := eA) hown [] ⟨0, 8, 11, 13⟩ [⟨0, 8, 14, 15⟩] (htab.trans rfl) (fun z hz9 => nomatch hz9) (by decide) (by decide) (hts _ q752) (va_Nw.use rfl (hN _ (zN_of q944 rfl))) hce hcv hcl ?_
      refine lv_astore_n (lv' := [(2, .ref q9_), (0, .ref h), (1, .ref ao)]) hx hb dX0_house_11 rfl hl (by decide) rfl (fun ls hl => ?_)
      refine lv_iconst (v := (1 : Int32)) hx hb dX0_house_12 (by decide) ?_
      refine widX (by omega) (by omega) ?_
      exact vx_ret (retW_i hx hb hr hlocks hP hD hS (Or.inr ⟨_, w_, hq, by rw [cdAU_A, ← li1], rfl⟩) dX0_house_13)
    by_cases e1 : E_ = eU
    · subst e1
      refine vx_catch (own := RX0) (name := eU) hown [⟨0, 8, 11, 13⟩] ⟨0, 8, 14, 15⟩ [] (htab.trans rfl) (fun z hz9 => by rw [List.mem_singleton.mp hz9]; exact Or.inr ⟨by decide, _, hts _ q752, hnc.1⟩) (by decide) (by decide) (hts _ q753) (va_Nw.use rfl (hN _ (zN_of q1283 rfl))) hce hcv hcl ?_
      refine lv_astore_n (lv' := [(2, .ref q9_), (0, .ref h), (1, .ref ao)]) hx hb dX0_house_14 rfl hl (by decide) rfl (fun ls hl => ?_)
      refine lv_iconst (v := (2 : Int32)) hx hb dX0_house_15 (by decide) ?_
      refine widX (by omega) (by omega) ?_
      exact vx_ret (retW_i hx hb hr hlocks hP hD hS (Or.inr ⟨_, w_, hq, by rw [cdAU_U, ← li2], rfl⟩) dX0_house_16)
    exact absurd (by unfold cdAU; rw [if_neg e0, if_neg e1]) hcE
  have hP : va_P D zCl (w_ ++ [ouC k ao g]) _ := hP
  have hD : va_D A (w_ ++ [ouC k ao g]) := hD
  obtain ⟨v, rfl⟩ := hv _ _ hq
  refine lv_i2l (v := v.toInt64) hx hb dX0_house_6 rfl ?_
  refine va_last hx hb hK hP hD hS w_.length 3 (get_last _ _) rfl out_in dX0_house_7 (fun H locs hP hD hS => ?_)
  have hP : va_P D zCl ((w_ ++ [ouC k ao g]).set w_.length (ouC k ao (upO g v.toInt64))) _ := hP
  have hD : va_D A ((w_ ++ [ouC k ao g]).set w_.length (ouC k ao (upO g v.toInt64))) := hD
  rw [set_last] at hP hD
  refine lv_goto (tgt := 17) hx hb dX0_house_8 (by decide) ?_
  refine lv_iconst (v := (0 : Int32)) hx hb dX0_house_17 (by decide) ?_
  refine widX (by omega) (by omega) ?_
  exact vx_ret (retW_i hx hb hr hlocks hP hD hS (Or.inl ⟨v, w_, hq, by rw [← li0], rfl⟩) dX0_house_18)
abbrev hhX0_keep : List (Nat × Nat × Nat × Nat) := [(0, 9, 12, 24)]
theorem kX0_keep {R : Room} {s : State} {args : Array Value} {own : String} {idx mc ms : Nat} {rm : Room} (hts : ∀ w ∈ lw_all, w.before args s = true) (hl : Cond.methodLink own idx yX0_keep ∈ lw_all) (hrc : rm.cells = mc) (hrs : rm.slots = ms) (hR : rm.frames + 1 ≤ R.frames ∧ 8 + (4 + 11) + rm.locals ≤ R.locals) : vx_CSW R s args own idx yX0_keep cX0_keep 4 (some .int) hhX0_keep (wsW_ yX0_keep cX0_keep 4 (some .int) hhX0_keep) rm mc ms 3 :=
  vx_cwSW 3 hts (lw_SW hl q1670 q106 q1671) rfl hrc hrs (by decide +kernel) hR
set_option maxRecDepth 100000 in
theorem mtX0_keep (l : Launch) (D : va_G) (k : Nat → ClassId) (Z : zZ) (hOK : zOK D zCl (zTys k) Z) (hNc : zNc Z) (ws : va_W) (g : Nat → Int64) (ao h : Nat) (fs : List Value) (hws : ws[0]? = some (h, .inr (1, fs))) (p1 : Int32) {P : Option Value → va_W → Prop} {PX : String → va_W → Prop} {rm : Room} {mc ms : Nat} (hrc : rm.cells = mc) (hrs : rm.slots = ms) (hM : CtX l yX1_keep cX1_keep 3 (some .int) rm Z D zCl ws [.ref h, .int p1] P PX mc ms) (hv : ∀ r w, P r w → ∃ v : Int32, r = some (.int v)) (hcd : ∀ E w, PX E w → ¬ cdI E = nI 0) : CtXH l yX0_keep cX0_keep 4 (some .int) hhX0_keep (rW rm 3 mc ms) Z D zCl (ws ++ [ouC k ao g]) [.ref h, .int p1, .ref ao] (fun r' w' => (∃ (v : Int32) (w1 : va_W), P (some (.int v)) w1 ∧ r' = some (.int (nI 0)) ∧ w' = w1 ++ [ouC k ao (upO g v.toInt64)]) ∨ ∃ (E : String) (w1 : va_W), PX E w1 ∧ r' = some (.int (cdI E)) ∧ w' = w1 ++ [ouC k ao g]) (fun _ _ => False) mc ms := by
  refine CtXH.of (by decide) (Nat.le_of_ble_eq_true rfl) ?_
  intro p e9 s m args below meth c A hE htab hA hP hD hS hz ls hl
  obtain ⟨hx, hb, hr, hml, hown, hts, hlocks, hname⟩ := hE
  have hown : s.vm.findClass RX0 = some m.cls := hown
  have hK := hOK.1 _ _ _ hz
  have hN := hOK.2.1 _ _ _ hz
  have hl : lv_has ls 4 [(0, .ref h), (1, .int p1), (2, .ref ao)] := hl
  have hnc := hNc _ _ _ hz
  refine lv_aload_n hx hb dX0_keep_0 rfl (lv_at hl 2 rfl) ?_
  refine lv_iconst (v := (0 : Int32)) hx hb dX0_keep_1 (by decide) ?_
  refine lv_aload_n hx hb dX0_keep_2 rfl (lv_at hl 0 rfl) ?_
  refine lv_iload_n hx hb dX0_keep_3 rfl (lv_at hl 1 rfl) ?_
  have hP : va_P D zCl ([] ++ (ws ++ [ouC k ao g])) _ := hP
  have hD : va_D A ([] ++ (ws ++ [ouC k ao g])) := hD
  refine cXV [] ws [ouC k ao g] (As := [.int p1]) (ci := 1) ⟨hx, hb, hml, hown, hts⟩ hOK hz hS hA hP hD hM (kX1_keep hts q1672 hrc hrs ⟨(by show rm.frames + 1 ≤ rm.frames + 1; omega), (by show 8 + (3 + 11) + rm.locals ≤ 8 + (3 + 11) + rm.locals; omega)⟩) 0 hws rfl rfl hl.1 rfl (lv_room (Nat.le_of_ble_eq_true rfl)) ⟨(by show 0 + mc ≤ mc; omega), (by show 0 + ms ≤ ms; omega)⟩ dX0_keep_4 (fun E_ w_ ce_ q9_ H locs hq hP hD hS hce hcv hcl => ?_) (fun r_ w_ H locs hq hP hD hS => ?_)
  · have hcE := hcd _ _ hq
    have hP : va_P D zCl (w_ ++ [ouC k ao g]) _ := hP
    have hD : va_D A (w_ ++ [ouC k ao g]) := hD
    by_cases e0 : E_ = eI
    · subst e0
      refine vx_catch (own := RX0) (name := eI) hown [] ⟨0, 9, 12, 24⟩ [] (htab.trans rfl) (fun z hz9 => nomatch hz9) (by decide) (by decide) (hts _ q1528) (va_Nw.use rfl (hN _ (zN_of q1561 rfl))) hce hcv hcl ?_
      refine lv_astore_n (lv' := [(3, .ref q9_), (0, .ref h), (1, .int p1), (2, .ref ao)]) hx hb dX0_keep_12 rfl hl (by decide) rfl (fun ls hl => ?_)
      refine lv_iconst (v := (1 : Int32)) hx hb dX0_keep_13 (by decide) ?_
      refine widX (by omega) (by omega) ?_
      exact vx_ret (retW_i hx hb hr hlocks hP hD hS (Or.inr ⟨_, w_, hq, by rw [cdI_I, ← li1], rfl⟩) dX0_keep_14)
    exact absurd (by unfold cdI; rw [if_neg e0]) hcE
  have hP : va_P D zCl (w_ ++ [ouC k ao g]) _ := hP
  have hD : va_D A (w_ ++ [ouC k ao g]) := hD
  obtain ⟨v, rfl⟩ := hv _ _ hq
  refine lv_i2l (v := v.toInt64) hx hb dX0_keep_7 rfl ?_
  refine va_last hx hb hK hP hD hS w_.length 3 (get_last _ _) rfl out_in dX0_keep_8 (fun H locs hP hD hS => ?_)
  have hP : va_P D zCl ((w_ ++ [ouC k ao g]).set w_.length (ouC k ao (upO g v.toInt64))) _ := hP
  have hD : va_D A ((w_ ++ [ouC k ao g]).set w_.length (ouC k ao (upO g v.toInt64))) := hD
  rw [set_last] at hP hD
  refine lv_goto (tgt := 15) hx hb dX0_keep_9 (by decide) ?_
  refine lv_iconst (v := (0 : Int32)) hx hb dX0_keep_15 (by decide) ?_
  refine widX (by omega) (by omega) ?_
  exact vx_ret (retW_i hx hb hr hlocks hP hD hS (Or.inl ⟨v, w_, hq, by rw [← li0], rfl⟩) dX0_keep_16)
abbrev hhX0_key : List (Nat × Nat × Nat × Nat) := [(0, 17, 20, 24)]
theorem kX0_key {R : Room} {s : State} {args : Array Value} {own : String} {idx mc ms : Nat} {rm : Room} (hts : ∀ w ∈ lw_all, w.before args s = true) (hl : Cond.methodLink own idx yX0_key ∈ lw_all) (hrc : rm.cells = mc) (hrs : rm.slots = ms) (hR : rm.frames + 1 ≤ R.frames ∧ 8 + (5 + 11) + rm.locals ≤ R.locals) : vx_CSW R s args own idx yX0_key cX0_key 5 (some .int) hhX0_key (wsW_ yX0_key cX0_key 5 (some .int) hhX0_key) rm mc ms 4 :=
  vx_cwSW 4 hts (lw_SW hl q1649 q106 q1650) rfl hrc hrs (by decide +kernel) hR
set_option maxRecDepth 100000 in
theorem mtX0_key (l : Launch) (D : va_G) (k : Nat → ClassId) (Z : zZ) (hOK : zOK D zCl (zTys k) Z) (hNc : zNc Z) (ws : va_W) (g : Nat → Int64) (ao h : Nat) (fs : List Value) (hws : ws[0]? = some (h, .inr (1, fs))) (p1 : Int32) (p2 : Bool) {P : Option Value → va_W → Prop} {PX : String → va_W → Prop} {rm : Room} {mc ms : Nat} (hrc : rm.cells = mc) (hrs : rm.slots = ms) (hM : CtX l yX1_key cX1_key 4 (some .boolean) rm Z D zCl ws [.ref h, .int p1, .int (bz p2)] P PX mc ms) (hv : ∀ r w, P r w → ∃ v : Bool, r = some (.int (bz v))) (hcd : ∀ E w, PX E w → ¬ cdI E = nI 0) : CtXH l yX0_key cX0_key 5 (some .int) hhX0_key (rW rm 4 mc ms) Z D zCl (ws ++ [ouC k ao g]) [.ref h, .int p1, .int (bz p2), .ref ao] (fun r' w' => (∃ (v : Bool) (w1 : va_W), P (some (.int (bz v))) w1 ∧ r' = some (.int (nI 0)) ∧ w' = w1 ++ [ouC k ao (upO g (bzL v))]) ∨ ∃ (E : String) (w1 : va_W), PX E w1 ∧ r' = some (.int (cdI E)) ∧ w' = w1 ++ [ouC k ao g]) (fun _ _ => False) mc ms := by
  refine CtXH.of (by decide) (Nat.le_of_ble_eq_true rfl) ?_
  intro p e9 s m args below meth c A hE htab hA hP hD hS hz ls hl
  obtain ⟨hx, hb, hr, hml, hown, hts, hlocks, hname⟩ := hE
  have hown : s.vm.findClass RX0 = some m.cls := hown
  have hK := hOK.1 _ _ _ hz
  have hN := hOK.2.1 _ _ _ hz
  have hl : lv_has ls 5 [(0, .ref h), (1, .int p1), (2, .int (bz p2)), (3, .ref ao)] := hl
  have hnc := hNc _ _ _ hz
  refine lv_aload_n hx hb dX0_key_0 rfl (lv_at hl 3 rfl) ?_
  refine lv_iconst (v := (0 : Int32)) hx hb dX0_key_1 (by decide) ?_
  refine lv_aload_n hx hb dX0_key_2 rfl (lv_at hl 0 rfl) ?_
  refine lv_iload_n hx hb dX0_key_3 rfl (lv_at hl 1 rfl) ?_
  refine lv_iload_n hx hb dX0_key_4 rfl (lv_at hl 2 rfl) ?_
  have hP : va_P D zCl ([] ++ (ws ++ [ouC k ao g])) _ := hP
  have hD : va_D A ([] ++ (ws ++ [ouC k ao g])) := hD
  refine cXV [] ws [ouC k ao g] (As := [.int p1, .int (bz p2)]) (ci := 1) ⟨hx, hb, hml, hown, hts⟩ hOK hz hS hA hP hD hM (kX1_key hts q1651 hrc hrs ⟨(by show rm.frames + 1 ≤ rm.frames + 1; omega), (by show 8 + (4 + 11) + rm.locals ≤ 8 + (4 + 11) + rm.locals; omega)⟩) 0 hws rfl rfl hl.1 rfl (lv_room (Nat.le_of_ble_eq_true rfl)) ⟨(by show 0 + mc ≤ mc; omega), (by show 0 + ms ≤ ms; omega)⟩ dX0_key_5 (fun E_ w_ ce_ q9_ H locs hq hP hD hS hce hcv hcl => ?_) (fun r_ w_ H locs hq hP hD hS => ?_)
  · have hcE := hcd _ _ hq
    have hP : va_P D zCl (w_ ++ [ouC k ao g]) _ := hP
    have hD : va_D A (w_ ++ [ouC k ao g]) := hD
    by_cases e0 : E_ = eI
    · subst e0
      refine vx_catch (own := RX0) (name := eI) hown [] ⟨0, 17, 20, 24⟩ [] (htab.trans rfl) (fun z hz9 => nomatch hz9) (by decide) (by decide) (hts _ q1528) (va_Nw.use rfl (hN _ (zN_of q1561 rfl))) hce hcv hcl ?_
      refine lv_astore (lv' := [(4, .ref q9_), (0, .ref h), (1, .int p1), (2, .int (bz p2)), (3, .ref ao)]) hx hb dX0_key_20 hl (by decide) rfl (fun ls hl => ?_)
      refine lv_iconst (v := (1 : Int32)) hx hb dX0_key_22 (by decide) ?_
      refine widX (by omega) (by omega) ?_
      exact vx_ret (retW_i hx hb hr hlocks hP hD hS (Or.inr ⟨_, w_, hq, by rw [cdI_I, ← li1], rfl⟩) dX0_key_23)
    exact absurd (by unfold cdI; rw [if_neg e0]) hcE
  have hP : va_P D zCl (w_ ++ [ouC k ao g]) _ := hP
  have hD : va_D A (w_ ++ [ouC k ao g]) := hD
  obtain ⟨v, rfl⟩ := hv _ _ hq
  cases v with
  | true =>
    refine lv_if_eq (tgt := 15) hx hb dX0_key_8 (by decide) (fun c1 => absurd c1 (by decide)) (fun _ => ?_)
    refine lv_lconst (v := (1 : Int64)) hx hb dX0_key_11 (by decide) ?_
    refine lv_goto (tgt := 16) hx hb dX0_key_12 (by decide) ?_
    refine va_last hx hb hK hP hD hS w_.length 3 (get_last _ _) rfl out_in dX0_key_16 (fun H locs hP hD hS => ?_)
    have hP : va_P D zCl ((w_ ++ [ouC k ao g]).set w_.length (ouC k ao (upO g (bzL true)))) _ := hP
    have hD : va_D A ((w_ ++ [ouC k ao g]).set w_.length (ouC k ao (upO g (bzL true)))) := hD
    rw [set_last] at hP hD
    refine lv_goto (tgt := 24) hx hb dX0_key_17 (by decide) ?_
    refine lv_iconst (v := (0 : Int32)) hx hb dX0_key_24 (by decide) ?_
    refine widX (by omega) (by omega) ?_
    exact vx_ret (retW_i hx hb hr hlocks hP hD hS (Or.inl ⟨true, w_, hq, by rw [← li0], rfl⟩) dX0_key_25)
  | false =>
    refine lv_if_eq (tgt := 15) hx hb dX0_key_8 (by decide) (fun _ => ?_) (fun c1 => absurd rfl c1)
    refine lv_lconst (v := (0 : Int64)) hx hb dX0_key_15 (by decide) ?_
    refine va_last hx hb hK hP hD hS w_.length 3 (get_last _ _) rfl out_in dX0_key_16 (fun H locs hP hD hS => ?_)
    have hP : va_P D zCl ((w_ ++ [ouC k ao g]).set w_.length (ouC k ao (upO g (bzL false)))) _ := hP
    have hD : va_D A ((w_ ++ [ouC k ao g]).set w_.length (ouC k ao (upO g (bzL false)))) := hD
    rw [set_last] at hP hD
    refine lv_goto (tgt := 24) hx hb dX0_key_17 (by decide) ?_
    refine lv_iconst (v := (0 : Int32)) hx hb dX0_key_24 (by decide) ?_
    refine widX (by omega) (by omega) ?_
    exact vx_ret (retW_i hx hb hr hlocks hP hD hS (Or.inl ⟨false, w_, hq, by rw [← li0], rfl⟩) dX0_key_25)
abbrev hhX0_law : List (Nat × Nat × Nat × Nat) := [(0, 8, 11, 13)]
theorem kX0_law {R : Room} {s : State} {args : Array Value} {own : String} {idx mc ms : Nat} {rm : Room} (hts : ∀ w ∈ lw_all, w.before args s = true) (hl : Cond.methodLink own idx yX0_law ∈ lw_all) (hrc : rm.cells = mc) (hrs : rm.slots = ms) (hR : rm.frames + 1 ≤ R.frames ∧ 8 + (3 + 11) + rm.locals ≤ R.locals) : vx_CSW R s args own idx yX0_law cX0_law 3 (some .int) hhX0_law (wsW_ yX0_law cX0_law 3 (some .int) hhX0_law) rm mc ms 2 :=
  vx_cwSW 2 hts (lw_SW hl q1297 q106 q1298) rfl hrc hrs (by decide +kernel) hR
set_option maxRecDepth 100000 in
theorem mtX0_law (l : Launch) (D : va_G) (k : Nat → ClassId) (Z : zZ) (hOK : zOK D zCl (zTys k) Z) (hNc : zNc Z) (ws : va_W) (g : Nat → Int64) (ao h : Nat) (fs : List Value) (hws : ws[0]? = some (h, .inr (1, fs))) {P : Option Value → va_W → Prop} {PX : String → va_W → Prop} {rm : Room} {mc ms : Nat} (hrc : rm.cells = mc) (hrs : rm.slots = ms) (hM : CtXH l yX1_law cX1_law 2 (some .int) hhX1_law rm Z D zCl ws [.ref h] P PX mc ms) (hv : ∀ r w, P r w → ∃ v : Int32, r = some (.int v)) (hcd : ∀ E w, PX E w → ¬ cdA E = nI 0) : CtXH l yX0_law cX0_law 3 (some .int) hhX0_law (rW rm 2 mc ms) Z D zCl (ws ++ [ouC k ao g]) [.ref h, .ref ao] (fun r' w' => (∃ (v : Int32) (w1 : va_W), P (some (.int v)) w1 ∧ r' = some (.int (nI 0)) ∧ w' = w1 ++ [ouC k ao (upO g v.toInt64)]) ∨ ∃ (E : String) (w1 : va_W), PX E w1 ∧ r' = some (.int (cdA E)) ∧ w' = w1 ++ [ouC k ao g]) (fun _ _ => False) mc ms := by
  refine CtXH.of (by decide) (Nat.le_of_ble_eq_true rfl) ?_
  intro p e9 s m args below meth c A hE htab hA hP hD hS hz ls hl
  obtain ⟨hx, hb, hr, hml, hown, hts, hlocks, hname⟩ := hE
  have hown : s.vm.findClass RX0 = some m.cls := hown
  have hK := hOK.1 _ _ _ hz
  have hN := hOK.2.1 _ _ _ hz
  have hl : lv_has ls 3 [(0, .ref h), (1, .ref ao)] := hl
  have hnc := hNc _ _ _ hz
  refine lv_aload_n hx hb dX0_law_0 rfl (lv_at hl 1 rfl) ?_
  refine lv_iconst (v := (0 : Int32)) hx hb dX0_law_1 (by decide) ?_
  refine lv_aload_n hx hb dX0_law_2 rfl (lv_at hl 0 rfl) ?_
  have hP : va_P D zCl ([] ++ (ws ++ [ouC k ao g])) _ := hP
  have hD : va_D A ([] ++ (ws ++ [ouC k ao g])) := hD
  refine cXVH [] ws [ouC k ao g] (As := []) (ci := 1) ⟨hx, hb, hml, hown, hts⟩ hOK hz hS hA hP hD hM (kX1_law hts q1299 hrc hrs ⟨(by show rm.frames + 1 ≤ rm.frames + 1; omega), (by show 8 + (2 + 11) + rm.locals ≤ 8 + (2 + 11) + rm.locals; omega)⟩) 0 hws rfl rfl hl.1 rfl (lv_room (Nat.le_of_ble_eq_true rfl)) ⟨(by show 0 + mc ≤ mc; omega), (by show 0 + ms ≤ ms; omega)⟩ dX0_law_3 (fun E_ w_ ce_ q9_ H locs hq hP hD hS hce hcv hcl => ?_) (fun r_ w_ H locs hq hP hD hS => ?_)
  · have hcE := hcd _ _ hq
    have hP : va_P D zCl (w_ ++ [ouC k ao g]) _ := hP
    have hD : va_D A (w_ ++ [ouC k ao g]) := hD
    by_cases e0 : E_ = eA
    · subst e0
      refine vx_catch (own := RX0) (name := eA) hown [] ⟨0, 8, 11, 13⟩ [] (htab.trans rfl) (fun z hz9 => nomatch hz9) (by decide) (by decide) (hts _ q752) (va_Nw.use rfl (hN _ (zN_of q944 rfl))) hce hcv hcl ?_
      refine lv_astore_n (lv' := [(2, .ref q9_), (0, .ref h), (1, .ref ao)]) hx hb dX0_law_11 rfl hl (by decide) rfl (fun ls hl => ?_)
      refine lv_iconst (v := (1 : Int32)) hx hb dX0_law_12 (by decide) ?_
      refine widX (by omega) (by omega) ?_
      exact vx_ret (retW_i hx hb hr hlocks hP hD hS (Or.inr ⟨_, w_, hq, by rw [cdA_A, ← li1], rfl⟩) dX0_law_13)
    exact absurd (by unfold cdA; rw [if_neg e0]) hcE
  have hP : va_P D zCl (w_ ++ [ouC k ao g]) _ := hP
  have hD : va_D A (w_ ++ [ouC k ao g]) := hD
  obtain ⟨v, rfl⟩ := hv _ _ hq
  refine lv_i2l (v := v.toInt64) hx hb dX0_law_6 rfl ?_
  refine va_last hx hb hK hP hD hS w_.length 3 (get_last _ _) rfl out_in dX0_law_7 (fun H locs hP hD hS => ?_)
  have hP : va_P D zCl ((w_ ++ [ouC k ao g]).set w_.length (ouC k ao (upO g v.toInt64))) _ := hP
  have hD : va_D A ((w_ ++ [ouC k ao g]).set w_.length (ouC k ao (upO g v.toInt64))) := hD
  rw [set_last] at hP hD
  refine lv_goto (tgt := 14) hx hb dX0_law_8 (by decide) ?_
  refine lv_iconst (v := (0 : Int32)) hx hb dX0_law_14 (by decide) ?_
  refine widX (by omega) (by omega) ?_
  exact vx_ret (retW_i hx hb hr hlocks hP hD hS (Or.inl ⟨v, w_, hq, by rw [← li0], rfl⟩) dX0_law_15)
abbrev hhX0_led : List (Nat × Nat × Nat × Nat) := [(0, 10, 13, 24)]
theorem kX0_led {R : Room} {s : State} {args : Array Value} {own : String} {idx mc ms : Nat} {rm : Room} (hts : ∀ w ∈ lw_all, w.before args s = true) (hl : Cond.methodLink own idx yX0_led ∈ lw_all) (hrc : rm.cells = mc) (hrs : rm.slots = ms) (hR : rm.frames + 1 ≤ R.frames ∧ 8 + (5 + 11) + rm.locals ≤ R.locals) : vx_CSW R s args own idx yX0_led cX0_led 5 (some .int) hhX0_led (wsW_ yX0_led cX0_led 5 (some .int) hhX0_led) rm mc ms 4 :=
  vx_cwSW 4 hts (lw_SW hl q1879 q106 q1880) rfl hrc hrs (by decide +kernel) hR
set_option maxRecDepth 100000 in
theorem mtX0_led (l : Launch) (D : va_G) (k : Nat → ClassId) (Z : zZ) (hOK : zOK D zCl (zTys k) Z) (hNc : zNc Z) (ws : va_W) (g : Nat → Int64) (ao h : Nat) (fs : List Value) (hws : ws[0]? = some (h, .inr (1, fs))) (p1 : Int32) (p2 : Bool) {P : Option Value → va_W → Prop} {PX : String → va_W → Prop} {rm : Room} {mc ms : Nat} (hrc : rm.cells = mc) (hrs : rm.slots = ms) (hM : CtX l yX1_led cX1_led 6 (some .int) rm Z D zCl ws [.ref h, .int p1, .int (bz p2)] P PX mc ms) (hv : ∀ r w, P r w → ∃ v : Int32, r = some (.int v)) (hcd : ∀ E w, PX E w → ¬ cdI E = nI 0) : CtXH l yX0_led cX0_led 5 (some .int) hhX0_led (rW rm 6 mc ms) Z D zCl (ws ++ [ouC k ao g]) [.ref h, .int p1, .int (bz p2), .ref ao] (fun r' w' => (∃ (v : Int32) (w1 : va_W), P (some (.int v)) w1 ∧ r' = some (.int (nI 0)) ∧ w' = w1 ++ [ouC k ao (upO g v.toInt64)]) ∨ ∃ (E : String) (w1 : va_W), PX E w1 ∧ r' = some (.int (cdI E)) ∧ w' = w1 ++ [ouC k ao g]) (fun _ _ => False) mc ms := by
  refine CtXH.of (by decide) (Nat.le_of_ble_eq_true rfl) ?_
  intro p e9 s m args below meth c A hE htab hA hP hD hS hz ls hl
  obtain ⟨hx, hb, hr, hml, hown, hts, hlocks, hname⟩ := hE
  have hown : s.vm.findClass RX0 = some m.cls := hown
  have hK := hOK.1 _ _ _ hz
  have hN := hOK.2.1 _ _ _ hz
  have hl : lv_has ls 5 [(0, .ref h), (1, .int p1), (2, .int (bz p2)), (3, .ref ao)] := hl
  have hnc := hNc _ _ _ hz
  refine lv_aload_n hx hb dX0_led_0 rfl (lv_at hl 3 rfl) ?_
  refine lv_iconst (v := (0 : Int32)) hx hb dX0_led_1 (by decide) ?_
  refine lv_aload_n hx hb dX0_led_2 rfl (lv_at hl 0 rfl) ?_
  refine lv_iload_n hx hb dX0_led_3 rfl (lv_at hl 1 rfl) ?_
  refine lv_iload_n hx hb dX0_led_4 rfl (lv_at hl 2 rfl) ?_
  have hP : va_P D zCl ([] ++ (ws ++ [ouC k ao g])) _ := hP
  have hD : va_D A ([] ++ (ws ++ [ouC k ao g])) := hD
  refine cXV [] ws [ouC k ao g] (As := [.int p1, .int (bz p2)]) (ci := 1) ⟨hx, hb, hml, hown, hts⟩ hOK hz hS hA hP hD hM (kX1_led hts q1881 hrc hrs ⟨(by show rm.frames + 1 ≤ rm.frames + 1; omega), (by show 8 + (6 + 11) + rm.locals ≤ 8 + (6 + 11) + rm.locals; omega)⟩) 0 hws rfl rfl hl.1 rfl (lv_room (Nat.le_of_ble_eq_true rfl)) ⟨(by show 0 + mc ≤ mc; omega), (by show 0 + ms ≤ ms; omega)⟩ dX0_led_5 (fun E_ w_ ce_ q9_ H locs hq hP hD hS hce hcv hcl => ?_) (fun r_ w_ H locs hq hP hD hS => ?_)
  · have hcE := hcd _ _ hq
    have hP : va_P D zCl (w_ ++ [ouC k ao g]) _ := hP
    have hD : va_D A (w_ ++ [ouC k ao g]) := hD
    by_cases e0 : E_ = eI
    · subst e0
      refine vx_catch (own := RX0) (name := eI) hown [] ⟨0, 10, 13, 24⟩ [] (htab.trans rfl) (fun z hz9 => nomatch hz9) (by decide) (by decide) (hts _ q1528) (va_Nw.use rfl (hN _ (zN_of q1561 rfl))) hce hcv hcl ?_
      refine lv_astore (lv' := [(4, .ref q9_), (0, .ref h), (1, .int p1), (2, .int (bz p2)), (3, .ref ao)]) hx hb dX0_led_13 hl (by decide) rfl (fun ls hl => ?_)
      refine lv_iconst (v := (1 : Int32)) hx hb dX0_led_15 (by decide) ?_
      refine widX (by omega) (by omega) ?_
      exact vx_ret (retW_i hx hb hr hlocks hP hD hS (Or.inr ⟨_, w_, hq, by rw [cdI_I, ← li1], rfl⟩) dX0_led_16)
    exact absurd (by unfold cdI; rw [if_neg e0]) hcE
  have hP : va_P D zCl (w_ ++ [ouC k ao g]) _ := hP
  have hD : va_D A (w_ ++ [ouC k ao g]) := hD
  obtain ⟨v, rfl⟩ := hv _ _ hq
  refine lv_i2l (v := v.toInt64) hx hb dX0_led_8 rfl ?_
  refine va_last hx hb hK hP hD hS w_.length 3 (get_last _ _) rfl out_in dX0_led_9 (fun H locs hP hD hS => ?_)
  have hP : va_P D zCl ((w_ ++ [ouC k ao g]).set w_.length (ouC k ao (upO g v.toInt64))) _ := hP
  have hD : va_D A ((w_ ++ [ouC k ao g]).set w_.length (ouC k ao (upO g v.toInt64))) := hD
  rw [set_last] at hP hD
  refine lv_goto (tgt := 17) hx hb dX0_led_10 (by decide) ?_
  refine lv_iconst (v := (0 : Int32)) hx hb dX0_led_17 (by decide) ?_
  refine widX (by omega) (by omega) ?_
  exact vx_ret (retW_i hx hb hr hlocks hP hD hS (Or.inl ⟨v, w_, hq, by rw [← li0], rfl⟩) dX0_led_18)
abbrev hhX0_line : List (Nat × Nat × Nat × Nat) := [(0, 10, 13, 24)]
theorem kX0_line {R : Room} {s : State} {args : Array Value} {own : String} {idx mc ms : Nat} {rm : Room} (hts : ∀ w ∈ lw_all, w.before args s = true) (hl : Cond.methodLink own idx yX0_line ∈ lw_all) (hrc : rm.cells = mc) (hrs : rm.slots = ms) (hR : rm.frames + 1 ≤ R.frames ∧ 8 + (5 + 11) + rm.locals ≤ R.locals) : vx_CSW R s args own idx yX0_line cX0_line 5 (some .int) hhX0_line (wsW_ yX0_line cX0_line 5 (some .int) hhX0_line) rm mc ms 4 :=
  vx_cwSW 4 hts (lw_SW hl q1821 q106 q1822) rfl hrc hrs (by decide +kernel) hR
set_option maxRecDepth 100000 in
theorem mtX0_line (l : Launch) (D : va_G) (k : Nat → ClassId) (Z : zZ) (hOK : zOK D zCl (zTys k) Z) (hNc : zNc Z) (ws : va_W) (g : Nat → Int64) (ao h : Nat) (fs : List Value) (hws : ws[0]? = some (h, .inr (1, fs))) (p1 : Int32) (p2 : Int32) {P : Option Value → va_W → Prop} {PX : String → va_W → Prop} {rm : Room} {mc ms : Nat} (hrc : rm.cells = mc) (hrs : rm.slots = ms) (hM : CtX l yX1_line cX1_line 7 (some .int) rm Z D zCl ws [.ref h, .int p1, .int p2] P PX mc ms) (hv : ∀ r w, P r w → ∃ v : Int32, r = some (.int v)) (hcd : ∀ E w, PX E w → ¬ cdI E = nI 0) : CtXH l yX0_line cX0_line 5 (some .int) hhX0_line (rW rm 7 mc ms) Z D zCl (ws ++ [ouC k ao g]) [.ref h, .int p1, .int p2, .ref ao] (fun r' w' => (∃ (v : Int32) (w1 : va_W), P (some (.int v)) w1 ∧ r' = some (.int (nI 0)) ∧ w' = w1 ++ [ouC k ao (upO g v.toInt64)]) ∨ ∃ (E : String) (w1 : va_W), PX E w1 ∧ r' = some (.int (cdI E)) ∧ w' = w1 ++ [ouC k ao g]) (fun _ _ => False) mc ms := by
  refine CtXH.of (by decide) (Nat.le_of_ble_eq_true rfl) ?_
  intro p e9 s m args below meth c A hE htab hA hP hD hS hz ls hl
  obtain ⟨hx, hb, hr, hml, hown, hts, hlocks, hname⟩ := hE
  have hown : s.vm.findClass RX0 = some m.cls := hown
  have hK := hOK.1 _ _ _ hz
  have hN := hOK.2.1 _ _ _ hz
  have hl : lv_has ls 5 [(0, .ref h), (1, .int p1), (2, .int p2), (3, .ref ao)] := hl
  have hnc := hNc _ _ _ hz
  refine lv_aload_n hx hb dX0_line_0 rfl (lv_at hl 3 rfl) ?_
  refine lv_iconst (v := (0 : Int32)) hx hb dX0_line_1 (by decide) ?_
  refine lv_aload_n hx hb dX0_line_2 rfl (lv_at hl 0 rfl) ?_
  refine lv_iload_n hx hb dX0_line_3 rfl (lv_at hl 1 rfl) ?_
  refine lv_iload_n hx hb dX0_line_4 rfl (lv_at hl 2 rfl) ?_
  have hP : va_P D zCl ([] ++ (ws ++ [ouC k ao g])) _ := hP
  have hD : va_D A ([] ++ (ws ++ [ouC k ao g])) := hD
  refine cXV [] ws [ouC k ao g] (As := [.int p1, .int p2]) (ci := 1) ⟨hx, hb, hml, hown, hts⟩ hOK hz hS hA hP hD hM (kX1_line hts q1823 hrc hrs ⟨(by show rm.frames + 1 ≤ rm.frames + 1; omega), (by show 8 + (7 + 11) + rm.locals ≤ 8 + (7 + 11) + rm.locals; omega)⟩) 0 hws rfl rfl hl.1 rfl (lv_room (Nat.le_of_ble_eq_true rfl)) ⟨(by show 0 + mc ≤ mc; omega), (by show 0 + ms ≤ ms; omega)⟩ dX0_line_5 (fun E_ w_ ce_ q9_ H locs hq hP hD hS hce hcv hcl => ?_) (fun r_ w_ H locs hq hP hD hS => ?_)
  · have hcE := hcd _ _ hq
    have hP : va_P D zCl (w_ ++ [ouC k ao g]) _ := hP
    have hD : va_D A (w_ ++ [ouC k ao g]) := hD
    by_cases e0 : E_ = eI
    · subst e0
      refine vx_catch (own := RX0) (name := eI) hown [] ⟨0, 10, 13, 24⟩ [] (htab.trans rfl) (fun z hz9 => nomatch hz9) (by decide) (by decide) (hts _ q1528) (va_Nw.use rfl (hN _ (zN_of q1561 rfl))) hce hcv hcl ?_
      refine lv_astore (lv' := [(4, .ref q9_), (0, .ref h), (1, .int p1), (2, .int p2), (3, .ref ao)]) hx hb dX0_line_13 hl (by decide) rfl (fun ls hl => ?_)
      refine lv_iconst (v := (1 : Int32)) hx hb dX0_line_15 (by decide) ?_
      refine widX (by omega) (by omega) ?_
      exact vx_ret (retW_i hx hb hr hlocks hP hD hS (Or.inr ⟨_, w_, hq, by rw [cdI_I, ← li1], rfl⟩) dX0_line_16)
    exact absurd (by unfold cdI; rw [if_neg e0]) hcE
  have hP : va_P D zCl (w_ ++ [ouC k ao g]) _ := hP
  have hD : va_D A (w_ ++ [ouC k ao g]) := hD
  obtain ⟨v, rfl⟩ := hv _ _ hq
  refine lv_i2l (v := v.toInt64) hx hb dX0_line_8 rfl ?_
  refine va_last hx hb hK hP hD hS w_.length 3 (get_last _ _) rfl out_in dX0_line_9 (fun H locs hP hD hS => ?_)
  have hP : va_P D zCl ((w_ ++ [ouC k ao g]).set w_.length (ouC k ao (upO g v.toInt64))) _ := hP
  have hD : va_D A ((w_ ++ [ouC k ao g]).set w_.length (ouC k ao (upO g v.toInt64))) := hD
  rw [set_last] at hP hD
  refine lv_goto (tgt := 17) hx hb dX0_line_10 (by decide) ?_
  refine lv_iconst (v := (0 : Int32)) hx hb dX0_line_17 (by decide) ?_
  refine widX (by omega) (by omega) ?_
  exact vx_ret (retW_i hx hb hr hlocks hP hD hS (Or.inl ⟨v, w_, hq, by rw [← li0], rfl⟩) dX0_line_18)
abbrev hhX0_log : List (Nat × Nat × Nat × Nat) := [(0, 10, 13, 26)]
theorem kX0_log {R : Room} {s : State} {args : Array Value} {own : String} {idx mc ms : Nat} {rm : Room} (hts : ∀ w ∈ lw_all, w.before args s = true) (hl : Cond.methodLink own idx yX0_log ∈ lw_all) (hrc : rm.cells = mc) (hrs : rm.slots = ms) (hR : rm.frames + 1 ≤ R.frames ∧ 8 + (5 + 11) + rm.locals ≤ R.locals) : vx_CSW R s args own idx yX0_log cX0_log 5 (some .int) hhX0_log (wsW_ yX0_log cX0_log 5 (some .int) hhX0_log) rm mc ms 4 :=
  vx_cwSW 4 hts (lw_SW hl q1890 q106 q1891) rfl hrc hrs (by decide +kernel) hR
set_option maxRecDepth 100000 in
theorem mtX0_log (l : Launch) (D : va_G) (k : Nat → ClassId) (Z : zZ) (hOK : zOK D zCl (zTys k) Z) (hNc : zNc Z) (ws : va_W) (g : Nat → Int64) (ao h : Nat) (fs : List Value) (hws : ws[0]? = some (h, .inr (1, fs))) (p1 : Int32) (p2 : Int32) {P : Option Value → va_W → Prop} {PX : String → va_W → Prop} {rm : Room} {mc ms : Nat} (hrc : rm.cells = mc) (hrs : rm.slots = ms) (hM : CtX l yX1_log cX1_log 3 (some .int) rm Z D zCl ws [.ref h, .int p1, .int p2] P PX mc ms) (hv : ∀ r w, P r w → ∃ v : Int32, r = some (.int v)) (hcd : ∀ E w, PX E w → ¬ cdN E = nI 0) : CtXH l yX0_log cX0_log 5 (some .int) hhX0_log (rW rm 3 mc ms) Z D zCl (ws ++ [ouC k ao g]) [.ref h, .int p1, .int p2, .ref ao] (fun r' w' => (∃ (v : Int32) (w1 : va_W), P (some (.int v)) w1 ∧ r' = some (.int (nI 0)) ∧ w' = w1 ++ [ouC k ao (upO g v.toInt64)]) ∨ ∃ (E : String) (w1 : va_W), PX E w1 ∧ r' = some (.int (cdN E)) ∧ w' = w1 ++ [ouC k ao g]) (fun _ _ => False) mc ms := by
  refine CtXH.of (by decide) (Nat.le_of_ble_eq_true rfl) ?_
  intro p e9 s m args below meth c A hE htab hA hP hD hS hz ls hl
  obtain ⟨hx, hb, hr, hml, hown, hts, hlocks, hname⟩ := hE
  have hown : s.vm.findClass RX0 = some m.cls := hown
  have hK := hOK.1 _ _ _ hz
  have hN := hOK.2.1 _ _ _ hz
  have hl : lv_has ls 5 [(0, .ref h), (1, .int p1), (2, .int p2), (3, .ref ao)] := hl
  have hnc := hNc _ _ _ hz
  refine lv_aload_n hx hb dX0_log_0 rfl (lv_at hl 3 rfl) ?_
  refine lv_iconst (v := (0 : Int32)) hx hb dX0_log_1 (by decide) ?_
  refine lv_aload_n hx hb dX0_log_2 rfl (lv_at hl 0 rfl) ?_
  refine lv_iload_n hx hb dX0_log_3 rfl (lv_at hl 1 rfl) ?_
  refine lv_iload_n hx hb dX0_log_4 rfl (lv_at hl 2 rfl) ?_
  have hP : va_P D zCl ([] ++ (ws ++ [ouC k ao g])) _ := hP
  have hD : va_D A ([] ++ (ws ++ [ouC k ao g])) := hD
  refine cXV [] ws [ouC k ao g] (As := [.int p1, .int p2]) (ci := 1) ⟨hx, hb, hml, hown, hts⟩ hOK hz hS hA hP hD hM (kX1_log hts q1892 hrc hrs ⟨(by show rm.frames + 1 ≤ rm.frames + 1; omega), (by show 8 + (3 + 11) + rm.locals ≤ 8 + (3 + 11) + rm.locals; omega)⟩) 0 hws rfl rfl hl.1 rfl (lv_room (Nat.le_of_ble_eq_true rfl)) ⟨(by show 0 + mc ≤ mc; omega), (by show 0 + ms ≤ ms; omega)⟩ dX0_log_5 (fun E_ w_ ce_ q9_ H locs hq hP hD hS hce hcv hcl => ?_) (fun r_ w_ H locs hq hP hD hS => ?_)
  · have hcE := hcd _ _ hq
    have hP : va_P D zCl (w_ ++ [ouC k ao g]) _ := hP
    have hD : va_D A (w_ ++ [ouC k ao g]) := hD
    by_cases e0 : E_ = eN
    · subst e0
      refine vx_catch (own := RX0) (name := eN) hown [] ⟨0, 10, 13, 26⟩ [] (htab.trans rfl) (fun z hz9 => nomatch hz9) (by decide) (by decide) (hts _ q1547) (va_Nw.use rfl (hN _ (zN_of q1579 rfl))) hce hcv hcl ?_
      refine lv_astore (lv' := [(4, .ref q9_), (0, .ref h), (1, .int p1), (2, .int p2), (3, .ref ao)]) hx hb dX0_log_13 hl (by decide) rfl (fun ls hl => ?_)
      refine lv_iconst (v := (1 : Int32)) hx hb dX0_log_15 (by decide) ?_
      refine widX (by omega) (by omega) ?_
      exact vx_ret (retW_i hx hb hr hlocks hP hD hS (Or.inr ⟨_, w_, hq, by rw [cdN_N, ← li1], rfl⟩) dX0_log_16)
    exact absurd (by unfold cdN; rw [if_neg e0]) hcE
  have hP : va_P D zCl (w_ ++ [ouC k ao g]) _ := hP
  have hD : va_D A (w_ ++ [ouC k ao g]) := hD
  obtain ⟨v, rfl⟩ := hv _ _ hq
  refine lv_i2l (v := v.toInt64) hx hb dX0_log_8 rfl ?_
  refine va_last hx hb hK hP hD hS w_.length 3 (get_last _ _) rfl out_in dX0_log_9 (fun H locs hP hD hS => ?_)
  have hP : va_P D zCl ((w_ ++ [ouC k ao g]).set w_.length (ouC k ao (upO g v.toInt64))) _ := hP
  have hD : va_D A ((w_ ++ [ouC k ao g]).set w_.length (ouC k ao (upO g v.toInt64))) := hD
  rw [set_last] at hP hD
  refine lv_goto (tgt := 17) hx hb dX0_log_10 (by decide) ?_
  refine lv_iconst (v := (0 : Int32)) hx hb dX0_log_17 (by decide) ?_
  refine widX (by omega) (by omega) ?_
  exact vx_ret (retW_i hx hb hr hlocks hP hD hS (Or.inl ⟨v, w_, hq, by rw [← li0], rfl⟩) dX0_log_18)
abbrev hhX0_look : List (Nat × Nat × Nat × Nat) := [(0, 8, 11, 13)]
theorem kX0_look {R : Room} {s : State} {args : Array Value} {own : String} {idx mc ms : Nat} {rm : Room} (hts : ∀ w ∈ lw_all, w.before args s = true) (hl : Cond.methodLink own idx yX0_look ∈ lw_all) (hrc : rm.cells = mc) (hrs : rm.slots = ms) (hR : rm.frames + 1 ≤ R.frames ∧ 8 + (3 + 11) + rm.locals ≤ R.locals) : vx_CSW R s args own idx yX0_look cX0_look 3 (some .int) hhX0_look (wsW_ yX0_look cX0_look 3 (some .int) hhX0_look) rm mc ms 2 :=
  vx_cwSW 2 hts (lw_SW hl q1814 q106 q1815) rfl hrc hrs (by decide +kernel) hR
set_option maxRecDepth 100000 in
theorem mtX0_look (l : Launch) (D : va_G) (k : Nat → ClassId) (Z : zZ) (hOK : zOK D zCl (zTys k) Z) (hNc : zNc Z) (ws : va_W) (g : Nat → Int64) (ao h : Nat) (fs : List Value) (hws : ws[0]? = some (h, .inr (1, fs))) {P : Option Value → va_W → Prop} {PX : String → va_W → Prop} {rm : Room} {mc ms : Nat} (hrc : rm.cells = mc) (hrs : rm.slots = ms) (hM : CtX l yX1_look cX1_look 7 (some .int) rm Z D zCl ws [.ref h] P PX mc ms) (hv : ∀ r w, P r w → ∃ v : Int32, r = some (.int v)) (hcd : ∀ E w, PX E w → ¬ cdA E = nI 0) : CtXH l yX0_look cX0_look 3 (some .int) hhX0_look (rW rm 7 mc ms) Z D zCl (ws ++ [ouC k ao g]) [.ref h, .ref ao] (fun r' w' => (∃ (v : Int32) (w1 : va_W), P (some (.int v)) w1 ∧ r' = some (.int (nI 0)) ∧ w' = w1 ++ [ouC k ao (upO g v.toInt64)]) ∨ ∃ (E : String) (w1 : va_W), PX E w1 ∧ r' = some (.int (cdA E)) ∧ w' = w1 ++ [ouC k ao g]) (fun _ _ => False) mc ms := by
  refine CtXH.of (by decide) (Nat.le_of_ble_eq_true rfl) ?_
  intro p e9 s m args below meth c A hE htab hA hP hD hS hz ls hl
  obtain ⟨hx, hb, hr, hml, hown, hts, hlocks, hname⟩ := hE
  have hown : s.vm.findClass RX0 = some m.cls := hown
  have hK := hOK.1 _ _ _ hz
  have hN := hOK.2.1 _ _ _ hz
  have hl : lv_has ls 3 [(0, .ref h), (1, .ref ao)] := hl
  have hnc := hNc _ _ _ hz
  refine lv_aload_n hx hb dX0_look_0 rfl (lv_at hl 1 rfl) ?_
  refine lv_iconst (v := (0 : Int32)) hx hb dX0_look_1 (by decide) ?_
  refine lv_aload_n hx hb dX0_look_2 rfl (lv_at hl 0 rfl) ?_
  have hP : va_P D zCl ([] ++ (ws ++ [ouC k ao g])) _ := hP
  have hD : va_D A ([] ++ (ws ++ [ouC k ao g])) := hD
  refine cXV [] ws [ouC k ao g] (As := []) (ci := 1) ⟨hx, hb, hml, hown, hts⟩ hOK hz hS hA hP hD hM (kX1_look hts q1816 hrc hrs ⟨(by show rm.frames + 1 ≤ rm.frames + 1; omega), (by show 8 + (7 + 11) + rm.locals ≤ 8 + (7 + 11) + rm.locals; omega)⟩) 0 hws rfl rfl hl.1 rfl (lv_room (Nat.le_of_ble_eq_true rfl)) ⟨(by show 0 + mc ≤ mc; omega), (by show 0 + ms ≤ ms; omega)⟩ dX0_look_3 (fun E_ w_ ce_ q9_ H locs hq hP hD hS hce hcv hcl => ?_) (fun r_ w_ H locs hq hP hD hS => ?_)
  · have hcE := hcd _ _ hq
    have hP : va_P D zCl (w_ ++ [ouC k ao g]) _ := hP
    have hD : va_D A (w_ ++ [ouC k ao g]) := hD
    by_cases e0 : E_ = eA
    · subst e0
      refine vx_catch (own := RX0) (name := eA) hown [] ⟨0, 8, 11, 13⟩ [] (htab.trans rfl) (fun z hz9 => nomatch hz9) (by decide) (by decide) (hts _ q752) (va_Nw.use rfl (hN _ (zN_of q944 rfl))) hce hcv hcl ?_
      refine lv_astore_n (lv' := [(2, .ref q9_), (0, .ref h), (1, .ref ao)]) hx hb dX0_look_11 rfl hl (by decide) rfl (fun ls hl => ?_)
      refine lv_iconst (v := (1 : Int32)) hx hb dX0_look_12 (by decide) ?_
      refine widX (by omega) (by omega) ?_
      exact vx_ret (retW_i hx hb hr hlocks hP hD hS (Or.inr ⟨_, w_, hq, by rw [cdA_A, ← li1], rfl⟩) dX0_look_13)
    exact absurd (by unfold cdA; rw [if_neg e0]) hcE
  have hP : va_P D zCl (w_ ++ [ouC k ao g]) _ := hP
  have hD : va_D A (w_ ++ [ouC k ao g]) := hD
  obtain ⟨v, rfl⟩ := hv _ _ hq
  refine lv_i2l (v := v.toInt64) hx hb dX0_look_6 rfl ?_
  refine va_last hx hb hK hP hD hS w_.length 3 (get_last _ _) rfl out_in dX0_look_7 (fun H locs hP hD hS => ?_)
  have hP : va_P D zCl ((w_ ++ [ouC k ao g]).set w_.length (ouC k ao (upO g v.toInt64))) _ := hP
  have hD : va_D A ((w_ ++ [ouC k ao g]).set w_.length (ouC k ao (upO g v.toInt64))) := hD
  rw [set_last] at hP hD
  refine lv_goto (tgt := 14) hx hb dX0_look_8 (by decide) ?_
  refine lv_iconst (v := (0 : Int32)) hx hb dX0_look_14 (by decide) ?_
  refine widX (by omega) (by omega) ?_
  exact vx_ret (retW_i hx hb hr hlocks hP hD hS (Or.inl ⟨v, w_, hq, by rw [← li0], rfl⟩) dX0_look_15)
abbrev hhX0_masons : List (Nat × Nat × Nat × Nat) := [(0, 9, 12, 13)]
theorem kX0_masons {R : Room} {s : State} {args : Array Value} {own : String} {idx mc ms : Nat} {rm : Room} (hts : ∀ w ∈ lw_all, w.before args s = true) (hl : Cond.methodLink own idx yX0_masons ∈ lw_all) (hrc : rm.cells = mc) (hrs : rm.slots = ms) (hR : rm.frames + 1 ≤ R.frames ∧ 8 + (4 + 11) + rm.locals ≤ R.locals) : vx_CSW R s args own idx yX0_masons cX0_masons 4 (some .int) hhX0_masons (wsW_ yX0_masons cX0_masons 4 (some .int) hhX0_masons) rm mc ms 3 :=
  vx_cwSW 3 hts (lw_SW hl q1677 q106 q1678) rfl hrc hrs (by decide +kernel) hR
set_option maxRecDepth 100000 in
theorem mtX0_masons (l : Launch) (D : va_G) (k : Nat → ClassId) (Z : zZ) (hOK : zOK D zCl (zTys k) Z) (hNc : zNc Z) (ws : va_W) (g : Nat → Int64) (ao h : Nat) (fs : List Value) (hws : ws[0]? = some (h, .inr (1, fs))) (p1 : Int32) {P : Option Value → va_W → Prop} {PX : String → va_W → Prop} {rm : Room} {mc ms : Nat} (hrc : rm.cells = mc) (hrs : rm.slots = ms) (hM : CtX l yX1_masons cX1_masons 3 (some .int) rm Z D zCl ws [.ref h, .int p1] P PX mc ms) (hv : ∀ r w, P r w → ∃ v : Int32, r = some (.int v)) (hcd : ∀ E w, PX E w → ¬ cdA E = nI 0) : CtXH l yX0_masons cX0_masons 4 (some .int) hhX0_masons (rW rm 3 mc ms) Z D zCl (ws ++ [ouC k ao g]) [.ref h, .int p1, .ref ao] (fun r' w' => (∃ (v : Int32) (w1 : va_W), P (some (.int v)) w1 ∧ r' = some (.int (nI 0)) ∧ w' = w1 ++ [ouC k ao (upO g v.toInt64)]) ∨ ∃ (E : String) (w1 : va_W), PX E w1 ∧ r' = some (.int (cdA E)) ∧ w' = w1 ++ [ouC k ao g]) (fun _ _ => False) mc ms := by
  refine CtXH.of (by decide) (Nat.le_of_ble_eq_true rfl) ?_
  intro p e9 s m args below meth c A hE htab hA hP hD hS hz ls hl
  obtain ⟨hx, hb, hr, hml, hown, hts, hlocks, hname⟩ := hE
  have hown : s.vm.findClass RX0 = some m.cls := hown
  have hK := hOK.1 _ _ _ hz
  have hN := hOK.2.1 _ _ _ hz
  have hl : lv_has ls 4 [(0, .ref h), (1, .int p1), (2, .ref ao)] := hl
  have hnc := hNc _ _ _ hz
  refine lv_aload_n hx hb dX0_masons_0 rfl (lv_at hl 2 rfl) ?_
  refine lv_iconst (v := (0 : Int32)) hx hb dX0_masons_1 (by decide) ?_
  refine lv_aload_n hx hb dX0_masons_2 rfl (lv_at hl 0 rfl) ?_
  refine lv_iload_n hx hb dX0_masons_3 rfl (lv_at hl 1 rfl) ?_
  have hP : va_P D zCl ([] ++ (ws ++ [ouC k ao g])) _ := hP
  have hD : va_D A ([] ++ (ws ++ [ouC k ao g])) := hD
  refine cXV [] ws [ouC k ao g] (As := [.int p1]) (ci := 1) ⟨hx, hb, hml, hown, hts⟩ hOK hz hS hA hP hD hM (kX1_masons hts q1679 hrc hrs ⟨(by show rm.frames + 1 ≤ rm.frames + 1; omega), (by show 8 + (3 + 11) + rm.locals ≤ 8 + (3 + 11) + rm.locals; omega)⟩) 0 hws rfl rfl hl.1 rfl (lv_room (Nat.le_of_ble_eq_true rfl)) ⟨(by show 0 + mc ≤ mc; omega), (by show 0 + ms ≤ ms; omega)⟩ dX0_masons_4 (fun E_ w_ ce_ q9_ H locs hq hP hD hS hce hcv hcl => ?_) (fun r_ w_ H locs hq hP hD hS => ?_)
  · have hcE := hcd _ _ hq
    have hP : va_P D zCl (w_ ++ [ouC k ao g]) _ := hP
    have hD : va_D A (w_ ++ [ouC k ao g]) := hD
    by_cases e0 : E_ = eA
    · subst e0
      refine vx_catch (own := RX0) (name := eA) hown [] ⟨0, 9, 12, 13⟩ [] (htab.trans rfl) (fun z hz9 => nomatch hz9) (by decide) (by decide) (hts _ q752) (va_Nw.use rfl (hN _ (zN_of q944 rfl))) hce hcv hcl ?_
      refine lv_astore_n (lv' := [(3, .ref q9_), (0, .ref h), (1, .int p1), (2, .ref ao)]) hx hb dX0_masons_12 rfl hl (by decide) rfl (fun ls hl => ?_)
      refine lv_iconst (v := (1 : Int32)) hx hb dX0_masons_13 (by decide) ?_
      refine widX (by omega) (by omega) ?_
      exact vx_ret (retW_i hx hb hr hlocks hP hD hS (Or.inr ⟨_, w_, hq, by rw [cdA_A, ← li1], rfl⟩) dX0_masons_14)
    exact absurd (by unfold cdA; rw [if_neg e0]) hcE
  have hP : va_P D zCl (w_ ++ [ouC k ao g]) _ := hP
  have hD : va_D A (w_ ++ [ouC k ao g]) := hD
  obtain ⟨v, rfl⟩ := hv _ _ hq
  refine lv_i2l (v := v.toInt64) hx hb dX0_masons_7 rfl ?_
  refine va_last hx hb hK hP hD hS w_.length 3 (get_last _ _) rfl out_in dX0_masons_8 (fun H locs hP hD hS => ?_)
  have hP : va_P D zCl ((w_ ++ [ouC k ao g]).set w_.length (ouC k ao (upO g v.toInt64))) _ := hP
  have hD : va_D A ((w_ ++ [ouC k ao g]).set w_.length (ouC k ao (upO g v.toInt64))) := hD
  rw [set_last] at hP hD
  refine lv_goto (tgt := 15) hx hb dX0_masons_9 (by decide) ?_
  refine lv_iconst (v := (0 : Int32)) hx hb dX0_masons_15 (by decide) ?_
  refine widX (by omega) (by omega) ?_
  exact vx_ret (retW_i hx hb hr hlocks hP hD hS (Or.inl ⟨v, w_, hq, by rw [← li0], rfl⟩) dX0_masons_16)
abbrev hhX0_need : List (Nat × Nat × Nat × Nat) := [(0, 9, 12, 13)]
theorem kX0_need {R : Room} {s : State} {args : Array Value} {own : String} {idx mc ms : Nat} {rm : Room} (hts : ∀ w ∈ lw_all, w.before args s = true) (hl : Cond.methodLink own idx yX0_need ∈ lw_all) (hrc : rm.cells = mc) (hrs : rm.slots = ms) (hR : rm.frames + 1 ≤ R.frames ∧ 8 + (4 + 11) + rm.locals ≤ R.locals) : vx_CSW R s args own idx yX0_need cX0_need 4 (some .int) hhX0_need (wsW_ yX0_need cX0_need 4 (some .int) hhX0_need) rm mc ms 3 :=
  vx_cwSW 3 hts (lw_SW hl q1847 q106 q1848) rfl hrc hrs (by decide +kernel) hR
set_option maxRecDepth 100000 in
theorem mtX0_need (l : Launch) (D : va_G) (k : Nat → ClassId) (Z : zZ) (hOK : zOK D zCl (zTys k) Z) (hNc : zNc Z) (ws : va_W) (g : Nat → Int64) (ao h : Nat) (fs : List Value) (hws : ws[0]? = some (h, .inr (1, fs))) (p1 : Int32) {P : Option Value → va_W → Prop} {PX : String → va_W → Prop} {rm : Room} {mc ms : Nat} (hrc : rm.cells = mc) (hrs : rm.slots = ms) (hM : CtX l yX1_need cX1_need 2 (some .int) rm Z D zCl ws [.ref h, .int p1] P PX mc ms) (hv : ∀ r w, P r w → ∃ v : Int32, r = some (.int v)) (hcd : ∀ E w, PX E w → ¬ cdA E = nI 0) : CtXH l yX0_need cX0_need 4 (some .int) hhX0_need (rW rm 2 mc ms) Z D zCl (ws ++ [ouC k ao g]) [.ref h, .int p1, .ref ao] (fun r' w' => (∃ (v : Int32) (w1 : va_W), P (some (.int v)) w1 ∧ r' = some (.int (nI 0)) ∧ w' = w1 ++ [ouC k ao (upO g v.toInt64)]) ∨ ∃ (E : String) (w1 : va_W), PX E w1 ∧ r' = some (.int (cdA E)) ∧ w' = w1 ++ [ouC k ao g]) (fun _ _ => False) mc ms := by
  refine CtXH.of (by decide) (Nat.le_of_ble_eq_true rfl) ?_
  intro p e9 s m args below meth c A hE htab hA hP hD hS hz ls hl
  obtain ⟨hx, hb, hr, hml, hown, hts, hlocks, hname⟩ := hE
  have hown : s.vm.findClass RX0 = some m.cls := hown
  have hK := hOK.1 _ _ _ hz
  have hN := hOK.2.1 _ _ _ hz
  have hl : lv_has ls 4 [(0, .ref h), (1, .int p1), (2, .ref ao)] := hl
  have hnc := hNc _ _ _ hz
  refine lv_aload_n hx hb dX0_need_0 rfl (lv_at hl 2 rfl) ?_
  refine lv_iconst (v := (0 : Int32)) hx hb dX0_need_1 (by decide) ?_
  refine lv_aload_n hx hb dX0_need_2 rfl (lv_at hl 0 rfl) ?_
  refine lv_iload_n hx hb dX0_need_3 rfl (lv_at hl 1 rfl) ?_
  have hP : va_P D zCl ([] ++ (ws ++ [ouC k ao g])) _ := hP
  have hD : va_D A ([] ++ (ws ++ [ouC k ao g])) := hD
  refine cXV [] ws [ouC k ao g] (As := [.int p1]) (ci := 1) ⟨hx, hb, hml, hown, hts⟩ hOK hz hS hA hP hD hM (kX1_need hts q1849 hrc hrs ⟨(by show rm.frames + 1 ≤ rm.frames + 1; omega), (by show 8 + (2 + 11) + rm.locals ≤ 8 + (2 + 11) + rm.locals; omega)⟩) 0 hws rfl rfl hl.1 rfl (lv_room (Nat.le_of_ble_eq_true rfl)) ⟨(by show 0 + mc ≤ mc; omega), (by show 0 + ms ≤ ms; omega)⟩ dX0_need_4 (fun E_ w_ ce_ q9_ H locs hq hP hD hS hce hcv hcl => ?_) (fun r_ w_ H locs hq hP hD hS => ?_)
  · have hcE := hcd _ _ hq
    have hP : va_P D zCl (w_ ++ [ouC k ao g]) _ := hP
    have hD : va_D A (w_ ++ [ouC k ao g]) := hD
    by_cases e0 : E_ = eA
    · subst e0
      refine vx_catch (own := RX0) (name := eA) hown [] ⟨0, 9, 12, 13⟩ [] (htab.trans rfl) (fun z hz9 => nomatch hz9) (by decide) (by decide) (hts _ q752) (va_Nw.use rfl (hN _ (zN_of q944 rfl))) hce hcv hcl ?_
      refine lv_astore_n (lv' := [(3, .ref q9_), (0, .ref h), (1, .int p1), (2, .ref ao)]) hx hb dX0_need_12 rfl hl (by decide) rfl (fun ls hl => ?_)
      refine lv_iconst (v := (1 : Int32)) hx hb dX0_need_13 (by decide) ?_
      refine widX (by omega) (by omega) ?_
      exact vx_ret (retW_i hx hb hr hlocks hP hD hS (Or.inr ⟨_, w_, hq, by rw [cdA_A, ← li1], rfl⟩) dX0_need_14)
    exact absurd (by unfold cdA; rw [if_neg e0]) hcE
  have hP : va_P D zCl (w_ ++ [ouC k ao g]) _ := hP
  have hD : va_D A (w_ ++ [ouC k ao g]) := hD
  obtain ⟨v, rfl⟩ := hv _ _ hq
  refine lv_i2l (v := v.toInt64) hx hb dX0_need_7 rfl ?_
  refine va_last hx hb hK hP hD hS w_.length 3 (get_last _ _) rfl out_in dX0_need_8 (fun H locs hP hD hS => ?_)
  have hP : va_P D zCl ((w_ ++ [ouC k ao g]).set w_.length (ouC k ao (upO g v.toInt64))) _ := hP
  have hD : va_D A ((w_ ++ [ouC k ao g]).set w_.length (ouC k ao (upO g v.toInt64))) := hD
  rw [set_last] at hP hD
  refine lv_goto (tgt := 15) hx hb dX0_need_9 (by decide) ?_
  refine lv_iconst (v := (0 : Int32)) hx hb dX0_need_15 (by decide) ?_
  refine widX (by omega) (by omega) ?_
  exact vx_ret (retW_i hx hb hr hlocks hP hD hS (Or.inl ⟨v, w_, hq, by rw [← li0], rfl⟩) dX0_need_16)
abbrev hhX0_pass : List (Nat × Nat × Nat × Nat) := [(0, 10, 13, 24)]
theorem kX0_pass {R : Room} {s : State} {args : Array Value} {own : String} {idx mc ms : Nat} {rm : Room} (hts : ∀ w ∈ lw_all, w.before args s = true) (hl : Cond.methodLink own idx yX0_pass ∈ lw_all) (hrc : rm.cells = mc) (hrs : rm.slots = ms) (hR : rm.frames + 1 ≤ R.frames ∧ 8 + (5 + 11) + rm.locals ≤ R.locals) : vx_CSW R s args own idx yX0_pass cX0_pass 5 (some .int) hhX0_pass (wsW_ yX0_pass cX0_pass 5 (some .int) hhX0_pass) rm mc ms 4 :=
  vx_cwSW 4 hts (lw_SW hl q1828 q106 q1829) rfl hrc hrs (by decide +kernel) hR
set_option maxRecDepth 100000 in
theorem mtX0_pass (l : Launch) (D : va_G) (k : Nat → ClassId) (Z : zZ) (hOK : zOK D zCl (zTys k) Z) (hNc : zNc Z) (ws : va_W) (g : Nat → Int64) (ao h : Nat) (fs : List Value) (hws : ws[0]? = some (h, .inr (1, fs))) (p1 : Int32) (p2 : Int32) {P : Option Value → va_W → Prop} {PX : String → va_W → Prop} {rm : Room} {mc ms : Nat} (hrc : rm.cells = mc) (hrs : rm.slots = ms) (hM : CtX l yX1_pass cX1_pass 4 (some .int) rm Z D zCl ws [.ref h, .int p1, .int p2] P PX mc ms) (hv : ∀ r w, P r w → ∃ v : Int32, r = some (.int v)) (hcd : ∀ E w, PX E w → ¬ cdI E = nI 0) : CtXH l yX0_pass cX0_pass 5 (some .int) hhX0_pass (rW rm 4 mc ms) Z D zCl (ws ++ [ouC k ao g]) [.ref h, .int p1, .int p2, .ref ao] (fun r' w' => (∃ (v : Int32) (w1 : va_W), P (some (.int v)) w1 ∧ r' = some (.int (nI 0)) ∧ w' = w1 ++ [ouC k ao (upO g v.toInt64)]) ∨ ∃ (E : String) (w1 : va_W), PX E w1 ∧ r' = some (.int (cdI E)) ∧ w' = w1 ++ [ouC k ao g]) (fun _ _ => False) mc ms := by
  refine CtXH.of (by decide) (Nat.le_of_ble_eq_true rfl) ?_
  intro p e9 s m args below meth c A hE htab hA hP hD hS hz ls hl
  obtain ⟨hx, hb, hr, hml, hown, hts, hlocks, hname⟩ := hE
  have hown : s.vm.findClass RX0 = some m.cls := hown
  have hK := hOK.1 _ _ _ hz
  have hN := hOK.2.1 _ _ _ hz
  have hl : lv_has ls 5 [(0, .ref h), (1, .int p1), (2, .int p2), (3, .ref ao)] := hl
  have hnc := hNc _ _ _ hz
  refine lv_aload_n hx hb dX0_pass_0 rfl (lv_at hl 3 rfl) ?_
  refine lv_iconst (v := (0 : Int32)) hx hb dX0_pass_1 (by decide) ?_
  refine lv_aload_n hx hb dX0_pass_2 rfl (lv_at hl 0 rfl) ?_
  refine lv_iload_n hx hb dX0_pass_3 rfl (lv_at hl 1 rfl) ?_
  refine lv_iload_n hx hb dX0_pass_4 rfl (lv_at hl 2 rfl) ?_
  have hP : va_P D zCl ([] ++ (ws ++ [ouC k ao g])) _ := hP
  have hD : va_D A ([] ++ (ws ++ [ouC k ao g])) := hD
  refine cXV [] ws [ouC k ao g] (As := [.int p1, .int p2]) (ci := 1) ⟨hx, hb, hml, hown, hts⟩ hOK hz hS hA hP hD hM (kX1_pass hts q1830 hrc hrs ⟨(by show rm.frames + 1 ≤ rm.frames + 1; omega), (by show 8 + (4 + 11) + rm.locals ≤ 8 + (4 + 11) + rm.locals; omega)⟩) 0 hws rfl rfl hl.1 rfl (lv_room (Nat.le_of_ble_eq_true rfl)) ⟨(by show 0 + mc ≤ mc; omega), (by show 0 + ms ≤ ms; omega)⟩ dX0_pass_5 (fun E_ w_ ce_ q9_ H locs hq hP hD hS hce hcv hcl => ?_) (fun r_ w_ H locs hq hP hD hS => ?_)
  · have hcE := hcd _ _ hq
    have hP : va_P D zCl (w_ ++ [ouC k ao g]) _ := hP
    have hD : va_D A (w_ ++ [ouC k ao g]) := hD
    by_cases e0 : E_ = eI
    · subst e0
      refine vx_catch (own := RX0) (name := eI) hown [] ⟨0, 10, 13, 24⟩ [] (htab.trans rfl) (fun z hz9 => nomatch hz9) (by decide) (by decide) (hts _ q1528) (va_Nw.use rfl (hN _ (zN_of q1561 rfl))) hce hcv hcl ?_
      refine lv_astore (lv' := [(4, .ref q9_), (0, .ref h), (1, .int p1), (2, .int p2), (3, .ref ao)]) hx hb dX0_pass_13 hl (by decide) rfl (fun ls hl => ?_)
      refine lv_iconst (v := (1 : Int32)) hx hb dX0_pass_15 (by decide) ?_
      refine widX (by omega) (by omega) ?_
      exact vx_ret (retW_i hx hb hr hlocks hP hD hS (Or.inr ⟨_, w_, hq, by rw [cdI_I, ← li1], rfl⟩) dX0_pass_16)
    exact absurd (by unfold cdI; rw [if_neg e0]) hcE
  have hP : va_P D zCl (w_ ++ [ouC k ao g]) _ := hP
  have hD : va_D A (w_ ++ [ouC k ao g]) := hD
  obtain ⟨v, rfl⟩ := hv _ _ hq
  refine lv_i2l (v := v.toInt64) hx hb dX0_pass_8 rfl ?_
  refine va_last hx hb hK hP hD hS w_.length 3 (get_last _ _) rfl out_in dX0_pass_9 (fun H locs hP hD hS => ?_)
  have hP : va_P D zCl ((w_ ++ [ouC k ao g]).set w_.length (ouC k ao (upO g v.toInt64))) _ := hP
  have hD : va_D A ((w_ ++ [ouC k ao g]).set w_.length (ouC k ao (upO g v.toInt64))) := hD
  rw [set_last] at hP hD
  refine lv_goto (tgt := 17) hx hb dX0_pass_10 (by decide) ?_
  refine lv_iconst (v := (0 : Int32)) hx hb dX0_pass_17 (by decide) ?_
  refine widX (by omega) (by omega) ?_
  exact vx_ret (retW_i hx hb hr hlocks hP hD hS (Or.inl ⟨v, w_, hq, by rw [← li0], rfl⟩) dX0_pass_18)
abbrev hhX0_rests : List (Nat × Nat × Nat × Nat) := [(0, 9, 12, 24)]
theorem kX0_rests {R : Room} {s : State} {args : Array Value} {own : String} {idx mc ms : Nat} {rm : Room} (hts : ∀ w ∈ lw_all, w.before args s = true) (hl : Cond.methodLink own idx yX0_rests ∈ lw_all) (hrc : rm.cells = mc) (hrs : rm.slots = ms) (hR : rm.frames + 1 ≤ R.frames ∧ 8 + (4 + 11) + rm.locals ≤ R.locals) : vx_CSW R s args own idx yX0_rests cX0_rests 4 (some .int) hhX0_rests (wsW_ yX0_rests cX0_rests 4 (some .int) hhX0_rests) rm mc ms 3 :=
  vx_cwSW 3 hts (lw_SW hl q1761 q106 q1762) rfl hrc hrs (by decide +kernel) hR
set_option maxRecDepth 100000 in
theorem mtX0_rests (l : Launch) (D : va_G) (k : Nat → ClassId) (Z : zZ) (hOK : zOK D zCl (zTys k) Z) (hNc : zNc Z) (ws : va_W) (g : Nat → Int64) (ao h : Nat) (fs : List Value) (hws : ws[0]? = some (h, .inr (1, fs))) (p1 : Int32) {P : Option Value → va_W → Prop} {PX : String → va_W → Prop} {rm : Room} {mc ms : Nat} (hrc : rm.cells = mc) (hrs : rm.slots = ms) (hM : CtX l yX1_rests cX1_rests 6 (some .int) rm Z D zCl ws [.ref h, .int p1] P PX mc ms) (hv : ∀ r w, P r w → ∃ v : Int32, r = some (.int v)) (hcd : ∀ E w, PX E w → ¬ cdI E = nI 0) : CtXH l yX0_rests cX0_rests 4 (some .int) hhX0_rests (rW rm 6 mc ms) Z D zCl (ws ++ [ouC k ao g]) [.ref h, .int p1, .ref ao] (fun r' w' => (∃ (v : Int32) (w1 : va_W), P (some (.int v)) w1 ∧ r' = some (.int (nI 0)) ∧ w' = w1 ++ [ouC k ao (upO g v.toInt64)]) ∨ ∃ (E : String) (w1 : va_W), PX E w1 ∧ r' = some (.int (cdI E)) ∧ w' = w1 ++ [ouC k ao g]) (fun _ _ => False) mc ms := by
  refine CtXH.of (by decide) (Nat.le_of_ble_eq_true rfl) ?_
  intro p e9 s m args below meth c A hE htab hA hP hD hS hz ls hl
  obtain ⟨hx, hb, hr, hml, hown, hts, hlocks, hname⟩ := hE
  have hown : s.vm.findClass RX0 = some m.cls := hown
  have hK := hOK.1 _ _ _ hz
  have hN := hOK.2.1 _ _ _ hz
  have hl : lv_has ls 4 [(0, .ref h), (1, .int p1), (2, .ref ao)] := hl
  have hnc := hNc _ _ _ hz
  refine lv_aload_n hx hb dX0_rests_0 rfl (lv_at hl 2 rfl) ?_
  refine lv_iconst (v := (0 : Int32)) hx hb dX0_rests_1 (by decide) ?_
  refine lv_aload_n hx hb dX0_rests_2 rfl (lv_at hl 0 rfl) ?_
  refine lv_iload_n hx hb dX0_rests_3 rfl (lv_at hl 1 rfl) ?_
  have hP : va_P D zCl ([] ++ (ws ++ [ouC k ao g])) _ := hP
  have hD : va_D A ([] ++ (ws ++ [ouC k ao g])) := hD
  refine cXV [] ws [ouC k ao g] (As := [.int p1]) (ci := 1) ⟨hx, hb, hml, hown, hts⟩ hOK hz hS hA hP hD hM (kX1_rests hts q1763 hrc hrs ⟨(by show rm.frames + 1 ≤ rm.frames + 1; omega), (by show 8 + (6 + 11) + rm.locals ≤ 8 + (6 + 11) + rm.locals; omega)⟩) 0 hws rfl rfl hl.1 rfl (lv_room (Nat.le_of_ble_eq_true rfl)) ⟨(by show 0 + mc ≤ mc; omega), (by show 0 + ms ≤ ms; omega)⟩ dX0_rests_4 (fun E_ w_ ce_ q9_ H locs hq hP hD hS hce hcv hcl => ?_) (fun r_ w_ H locs hq hP hD hS => ?_)
  · have hcE := hcd _ _ hq
    have hP : va_P D zCl (w_ ++ [ouC k ao g]) _ := hP
    have hD : va_D A (w_ ++ [ouC k ao g]) := hD
    by_cases e0 : E_ = eI
    · subst e0
      refine vx_catch (own := RX0) (name := eI) hown [] ⟨0, 9, 12, 24⟩ [] (htab.trans rfl) (fun z hz9 => nomatch hz9) (by decide) (by decide) (hts _ q1528) (va_Nw.use rfl (hN _ (zN_of q1561 rfl))) hce hcv hcl ?_
      refine lv_astore_n (lv' := [(3, .ref q9_), (0, .ref h), (1, .int p1), (2, .ref ao)]) hx hb dX0_rests_12 rfl hl (by decide) rfl (fun ls hl => ?_)
      refine lv_iconst (v := (1 : Int32)) hx hb dX0_rests_13 (by decide) ?_
      refine widX (by omega) (by omega) ?_
      exact vx_ret (retW_i hx hb hr hlocks hP hD hS (Or.inr ⟨_, w_, hq, by rw [cdI_I, ← li1], rfl⟩) dX0_rests_14)
    exact absurd (by unfold cdI; rw [if_neg e0]) hcE
  have hP : va_P D zCl (w_ ++ [ouC k ao g]) _ := hP
  have hD : va_D A (w_ ++ [ouC k ao g]) := hD
  obtain ⟨v, rfl⟩ := hv _ _ hq
  refine lv_i2l (v := v.toInt64) hx hb dX0_rests_7 rfl ?_
  refine va_last hx hb hK hP hD hS w_.length 3 (get_last _ _) rfl out_in dX0_rests_8 (fun H locs hP hD hS => ?_)
  have hP : va_P D zCl ((w_ ++ [ouC k ao g]).set w_.length (ouC k ao (upO g v.toInt64))) _ := hP
  have hD : va_D A ((w_ ++ [ouC k ao g]).set w_.length (ouC k ao (upO g v.toInt64))) := hD
  rw [set_last] at hP hD
  refine lv_goto (tgt := 15) hx hb dX0_rests_9 (by decide) ?_
  refine lv_iconst (v := (0 : Int32)) hx hb dX0_rests_15 (by decide) ?_
  refine widX (by omega) (by omega) ?_
  exact vx_ret (retW_i hx hb hr hlocks hP hD hS (Or.inl ⟨v, w_, hq, by rw [← li0], rfl⟩) dX0_rests_16)
abbrev hhX0_room : List (Nat × Nat × Nat × Nat) := [(0, 10, 13, 24), (0, 10, 17, 26)]
theorem kX0_room {R : Room} {s : State} {args : Array Value} {own : String} {idx mc ms : Nat} {rm : Room} (hts : ∀ w ∈ lw_all, w.before args s = true) (hl : Cond.methodLink own idx yX0_room ∈ lw_all) (hrc : rm.cells = mc) (hrs : rm.slots = ms) (hR : rm.frames + 1 ≤ R.frames ∧ 8 + (5 + 11) + rm.locals ≤ R.locals) : vx_CSW R s args own idx yX0_room cX0_room 5 (some .int) hhX0_room (wsW_ yX0_room cX0_room 5 (some .int) hhX0_room) rm mc ms 4 :=
  vx_cwSW 4 hts (lw_SW hl q1597 q106 q1598) rfl hrc hrs (by decide +kernel) hR
set_option maxRecDepth 100000 in
theorem mtX0_room (l : Launch) (D : va_G) (k : Nat → ClassId) (Z : zZ) (hOK : zOK D zCl (zTys k) Z) (hNc : zNc Z) (ws : va_W) (g : Nat → Int64) (ao h : Nat) (fs : List Value) (hws : ws[0]? = some (h, .inr (1, fs))) (p1 : Int32) (p2 : Int32) {P : Option Value → va_W → Prop} {PX : String → va_W → Prop} {rm : Room} {mc ms : Nat} (hrc : rm.cells = mc) (hrs : rm.slots = ms) (hM : CtX l yX1_room cX1_room 3 (some .int) rm Z D zCl ws [.ref h, .int p1, .int p2] P PX mc ms) (hv : ∀ r w, P r w → ∃ v : Int32, r = some (.int v)) (hcd : ∀ E w, PX E w → ¬ cdIN E = nI 0) : CtXH l yX0_room cX0_room 5 (some .int) hhX0_room (rW rm 3 mc ms) Z D zCl (ws ++ [ouC k ao g]) [.ref h, .int p1, .int p2, .ref ao] (fun r' w' => (∃ (v : Int32) (w1 : va_W), P (some (.int v)) w1 ∧ r' = some (.int (nI 0)) ∧ w' = w1 ++ [ouC k ao (upO g v.toInt64)]) ∨ ∃ (E : String) (w1 : va_W), PX E w1 ∧ r' = some (.int (cdIN E)) ∧ w' = w1 ++ [ouC k ao g]) (fun _ _ => False) mc ms := by
  refine CtXH.of (by decide) (Nat.le_of_ble_eq_true rfl) ?_
  intro p e9 s m args below meth c A hE htab hA hP hD hS hz ls hl
  obtain ⟨hx, hb, hr, hml, hown, hts, hlocks, hname⟩ := hE
  have hown : s.vm.findClass RX0 = some m.cls := hown
  have hK := hOK.1 _ _ _ hz
  have hN := hOK.2.1 _ _ _ hz
  have hl : lv_has ls 5 [(0, .ref h), (1, .int p1), (2, .int p2), (3, .ref ao)] := hl
  have hnc := hNc _ _ _ hz
  refine lv_aload_n hx hb dX0_room_0 rfl (lv_at hl 3 rfl) ?_
  refine lv_iconst (v := (0 : Int32)) hx hb dX0_room_1 (by decide) ?_
  refine lv_aload_n hx hb dX0_room_2 rfl (lv_at hl 0 rfl) ?_
  refine lv_iload_n hx hb dX0_room_3 rfl (lv_at hl 1 rfl) ?_
  refine lv_iload_n hx hb dX0_room_4 rfl (lv_at hl 2 rfl) ?_
  have hP : va_P D zCl ([] ++ (ws ++ [ouC k ao g])) _ := hP
  have hD : va_D A ([] ++ (ws ++ [ouC k ao g])) := hD
  refine cXV [] ws [ouC k ao g] (As := [.int p1, .int p2]) (ci := 1) ⟨hx, hb, hml, hown, hts⟩ hOK hz hS hA hP hD hM (kX1_room hts q1599 hrc hrs ⟨(by show rm.frames + 1 ≤ rm.frames + 1; omega), (by show 8 + (3 + 11) + rm.locals ≤ 8 + (3 + 11) + rm.locals; omega)⟩) 0 hws rfl rfl hl.1 rfl (lv_room (Nat.le_of_ble_eq_true rfl)) ⟨(by show 0 + mc ≤ mc; omega), (by show 0 + ms ≤ ms; omega)⟩ dX0_room_5 (fun E_ w_ ce_ q9_ H locs hq hP hD hS hce hcv hcl => ?_) (fun r_ w_ H locs hq hP hD hS => ?_)
  · have hcE := hcd _ _ hq
    have hP : va_P D zCl (w_ ++ [ouC k ao g]) _ := hP
    have hD : va_D A (w_ ++ [ouC k ao g]) := hD
    by_cases e0 : E_ = eI
    · subst e0
      refine vx_catch (own := RX0) (name := eI) hown [] ⟨0, 10, 13, 24⟩ [⟨0, 10, 17, 26⟩] (htab.trans rfl) (fun z hz9 => nomatch hz9) (by decide) (by decide) (hts _ q1528) (va_Nw.use rfl (hN _ (zN_of q1561 rfl))) hce hcv hcl ?_
      refine lv_astore (lv' := [(4, .ref q9_), (0, .ref h), (1, .int p1), (2, .int p2), (3, .ref ao)]) hx hb dX0_room_13 hl (by decide) rfl (fun ls hl => ?_)
      refine lv_iconst (v := (1 : Int32)) hx hb dX0_room_15 (by decide) ?_
      refine widX (by omega) (by omega) ?_
      exact vx_ret (retW_i hx hb hr hlocks hP hD hS (Or.inr ⟨_, w_, hq, by rw [cdIN_I, ← li1], rfl⟩) dX0_room_16)
    by_cases e1 : E_ = eN
    · subst e1
      refine vx_catch (own := RX0) (name := eN) hown [⟨0, 10, 13, 24⟩] ⟨0, 10, 17, 26⟩ [] (htab.trans rfl) (fun z hz9 => by rw [List.mem_singleton.mp hz9]; exact Or.inr ⟨by decide, _, hts _ q1528, hnc.2.1⟩) (by decide) (by decide) (hts _ q1547) (va_Nw.use rfl (hN _ (zN_of q1579 rfl))) hce hcv hcl ?_
      refine lv_astore (lv' := [(4, .ref q9_), (0, .ref h), (1, .int p1), (2, .int p2), (3, .ref ao)]) hx hb dX0_room_17 hl (by decide) rfl (fun ls hl => ?_)
      refine lv_iconst (v := (2 : Int32)) hx hb dX0_room_19 (by decide) ?_
      refine widX (by omega) (by omega) ?_
      exact vx_ret (retW_i hx hb hr hlocks hP hD hS (Or.inr ⟨_, w_, hq, by rw [cdIN_N, ← li2], rfl⟩) dX0_room_20)
    exact absurd (by unfold cdIN; rw [if_neg e0, if_neg e1]) hcE
  have hP : va_P D zCl (w_ ++ [ouC k ao g]) _ := hP
  have hD : va_D A (w_ ++ [ouC k ao g]) := hD
  obtain ⟨v, rfl⟩ := hv _ _ hq
  refine lv_i2l (v := v.toInt64) hx hb dX0_room_8 rfl ?_
  refine va_last hx hb hK hP hD hS w_.length 3 (get_last _ _) rfl out_in dX0_room_9 (fun H locs hP hD hS => ?_)
  have hP : va_P D zCl ((w_ ++ [ouC k ao g]).set w_.length (ouC k ao (upO g v.toInt64))) _ := hP
  have hD : va_D A ((w_ ++ [ouC k ao g]).set w_.length (ouC k ao (upO g v.toInt64))) := hD
  rw [set_last] at hP hD
  refine lv_goto (tgt := 21) hx hb dX0_room_10 (by decide) ?_
  refine lv_iconst (v := (0 : Int32)) hx hb dX0_room_21 (by decide) ?_
  refine widX (by omega) (by omega) ?_
  exact vx_ret (retW_i hx hb hr hlocks hP hD hS (Or.inl ⟨v, w_, hq, by rw [← li0], rfl⟩) dX0_room_22)
abbrev hhX0_saturday : List (Nat × Nat × Nat × Nat) := [(0, 17, 20, 24), (0, 17, 24, 13)]
theorem kX0_saturday {R : Room} {s : State} {args : Array Value} {own : String} {idx mc ms : Nat} {rm : Room} (hts : ∀ w ∈ lw_all, w.before args s = true) (hl : Cond.methodLink own idx yX0_saturday ∈ lw_all) (hrc : rm.cells = mc) (hrs : rm.slots = ms) (hR : rm.frames + 1 ≤ R.frames ∧ 8 + (5 + 11) + rm.locals ≤ R.locals) : vx_CSW R s args own idx yX0_saturday cX0_saturday 5 (some .int) hhX0_saturday (wsW_ yX0_saturday cX0_saturday 5 (some .int) hhX0_saturday) rm mc ms 4 :=
  vx_cwSW 4 hts (lw_SW hl q1621 q106 q1622) rfl hrc hrs (by decide +kernel) hR
set_option maxRecDepth 100000 in
theorem mtX0_saturday (l : Launch) (D : va_G) (k : Nat → ClassId) (Z : zZ) (hOK : zOK D zCl (zTys k) Z) (hNc : zNc Z) (ws : va_W) (g : Nat → Int64) (ao h : Nat) (fs : List Value) (hws : ws[0]? = some (h, .inr (1, fs))) (p1 : Int32) (p2 : Int32) {P : Option Value → va_W → Prop} {PX : String → va_W → Prop} {rm : Room} {mc ms : Nat} (hrc : rm.cells = mc) (hrs : rm.slots = ms) (hM : CtX l yX1_saturday cX1_saturday 3 (some .boolean) rm Z D zCl ws [.ref h, .int p1, .int p2] P PX mc ms) (hv : ∀ r w, P r w → ∃ v : Bool, r = some (.int (bz v))) (hcd : ∀ E w, PX E w → ¬ cdIA E = nI 0) : CtXH l yX0_saturday cX0_saturday 5 (some .int) hhX0_saturday (rW rm 3 mc ms) Z D zCl (ws ++ [ouC k ao g]) [.ref h, .int p1, .int p2, .ref ao] (fun r' w' => (∃ (v : Bool) (w1 : va_W), P (some (.int (bz v))) w1 ∧ r' = some (.int (nI 0)) ∧ w' = w1 ++ [ouC k ao (upO g (bzL v))]) ∨ ∃ (E : String) (w1 : va_W), PX E w1 ∧ r' = some (.int (cdIA E)) ∧ w' = w1 ++ [ouC k ao g]) (fun _ _ => False) mc ms := by
  refine CtXH.of (by decide) (Nat.le_of_ble_eq_true rfl) ?_
  intro p e9 s m args below meth c A hE htab hA hP hD hS hz ls hl
  obtain ⟨hx, hb, hr, hml, hown, hts, hlocks, hname⟩ := hE
  have hown : s.vm.findClass RX0 = some m.cls := hown
  have hK := hOK.1 _ _ _ hz
  have hN := hOK.2.1 _ _ _ hz
  have hl : lv_has ls 5 [(0, .ref h), (1, .int p1), (2, .int p2), (3, .ref ao)] := hl
  have hnc := hNc _ _ _ hz
  refine lv_aload_n hx hb dX0_saturday_0 rfl (lv_at hl 3 rfl) ?_
  refine lv_iconst (v := (0 : Int32)) hx hb dX0_saturday_1 (by decide) ?_
  refine lv_aload_n hx hb dX0_saturday_2 rfl (lv_at hl 0 rfl) ?_
  refine lv_iload_n hx hb dX0_saturday_3 rfl (lv_at hl 1 rfl) ?_
  refine lv_iload_n hx hb dX0_saturday_4 rfl (lv_at hl 2 rfl) ?_
  have hP : va_P D zCl ([] ++ (ws ++ [ouC k ao g])) _ := hP
  have hD : va_D A ([] ++ (ws ++ [ouC k ao g])) := hD
  refine cXV [] ws [ouC k ao g] (As := [.int p1, .int p2]) (ci := 1) ⟨hx, hb, hml, hown, hts⟩ hOK hz hS hA hP hD hM (kX1_saturday hts q1623 hrc hrs ⟨(by show rm.frames + 1 ≤ rm.frames + 1; omega), (by show 8 + (3 + 11) + rm.locals ≤ 8 + (3 + 11) + rm.locals; omega)⟩) 0 hws rfl rfl hl.1 rfl (lv_room (Nat.le_of_ble_eq_true rfl)) ⟨(by show 0 + mc ≤ mc; omega), (by show 0 + ms ≤ ms; omega)⟩ dX0_saturday_5 (fun E_ w_ ce_ q9_ H locs hq hP hD hS hce hcv hcl => ?_) (fun r_ w_ H locs hq hP hD hS => ?_)
  · have hcE := hcd _ _ hq
    have hP : va_P D zCl (w_ ++ [ouC k ao g]) _ := hP
    have hD : va_D A (w_ ++ [ouC k ao g]) := hD
    by_cases e0 : E_ = eI
    · subst e0
      refine vx_catch (own := RX0) (name := eI) hown [] ⟨0, 17, 20, 24⟩ [⟨0, 17, 24, 13⟩] (htab.trans rfl) (fun z hz9 => nomatch hz9) (by decide) (by decide) (hts _ q1528) (va_Nw.use rfl (hN _ (zN_of q1561 rfl))) hce hcv hcl ?_
      refine lv_astore (lv' := [(4, .ref q9_), (0, .ref h), (1, .int p1), (2, .int p2), (3, .ref ao)]) hx hb dX0_saturday_20 hl (by decide) rfl (fun ls hl => ?_)
      refine lv_iconst (v := (1 : Int32)) hx hb dX0_saturday_22 (by decide) ?_
      refine widX (by omega) (by omega) ?_
      exact vx_ret (retW_i hx hb hr hlocks hP hD hS (Or.inr ⟨_, w_, hq, by rw [cdIA_I, ← li1], rfl⟩) dX0_saturday_23)
    by_cases e1 : E_ = eA
    · subst e1
      refine vx_catch (own := RX0) (name := eA) hown [⟨0, 17, 20, 24⟩] ⟨0, 17, 24, 13⟩ [] (htab.trans rfl) (fun z hz9 => by rw [List.mem_singleton.mp hz9]; exact Or.inr ⟨by decide, _, hts _ q1528, hnc.2.2.1⟩) (by decide) (by decide) (hts _ q752) (va_Nw.use rfl (hN _ (zN_of q944 rfl))) hce hcv hcl ?_
      refine lv_astore (lv' := [(4, .ref q9_), (0, .ref h), (1, .int p1), (2, .int p2), (3, .ref ao)]) hx hb dX0_saturday_24 hl (by decide) rfl (fun ls hl => ?_)
      refine lv_iconst (v := (2 : Int32)) hx hb dX0_saturday_26 (by decide) ?_
      refine widX (by omega) (by omega) ?_
      exact vx_ret (retW_i hx hb hr hlocks hP hD hS (Or.inr ⟨_, w_, hq, by rw [cdIA_A, ← li2], rfl⟩) dX0_saturday_27)
    exact absurd (by unfold cdIA; rw [if_neg e0, if_neg e1]) hcE
  have hP : va_P D zCl (w_ ++ [ouC k ao g]) _ := hP
  have hD : va_D A (w_ ++ [ouC k ao g]) := hD
  obtain ⟨v, rfl⟩ := hv _ _ hq
  cases v with
  | true =>
    refine lv_if_eq (tgt := 15) hx hb dX0_saturday_8 (by decide) (fun c1 => absurd c1 (by decide)) (fun _ => ?_)
    refine lv_lconst (v := (1 : Int64)) hx hb dX0_saturday_11 (by decide) ?_
    refine lv_goto (tgt := 16) hx hb dX0_saturday_12 (by decide) ?_
    refine va_last hx hb hK hP hD hS w_.length 3 (get_last _ _) rfl out_in dX0_saturday_16 (fun H locs hP hD hS => ?_)
    have hP : va_P D zCl ((w_ ++ [ouC k ao g]).set w_.length (ouC k ao (upO g (bzL true)))) _ := hP
    have hD : va_D A ((w_ ++ [ouC k ao g]).set w_.length (ouC k ao (upO g (bzL true)))) := hD
    rw [set_last] at hP hD
    refine lv_goto (tgt := 28) hx hb dX0_saturday_17 (by decide) ?_
    refine lv_iconst (v := (0 : Int32)) hx hb dX0_saturday_28 (by decide) ?_
    refine widX (by omega) (by omega) ?_
    exact vx_ret (retW_i hx hb hr hlocks hP hD hS (Or.inl ⟨true, w_, hq, by rw [← li0], rfl⟩) dX0_saturday_29)
  | false =>
    refine lv_if_eq (tgt := 15) hx hb dX0_saturday_8 (by decide) (fun _ => ?_) (fun c1 => absurd rfl c1)
    refine lv_lconst (v := (0 : Int64)) hx hb dX0_saturday_15 (by decide) ?_
    refine va_last hx hb hK hP hD hS w_.length 3 (get_last _ _) rfl out_in dX0_saturday_16 (fun H locs hP hD hS => ?_)
    have hP : va_P D zCl ((w_ ++ [ouC k ao g]).set w_.length (ouC k ao (upO g (bzL false)))) _ := hP
    have hD : va_D A ((w_ ++ [ouC k ao g]).set w_.length (ouC k ao (upO g (bzL false)))) := hD
    rw [set_last] at hP hD
    refine lv_goto (tgt := 28) hx hb dX0_saturday_17 (by decide) ?_
    refine lv_iconst (v := (0 : Int32)) hx hb dX0_saturday_28 (by decide) ?_
    refine widX (by omega) (by omega) ?_
    exact vx_ret (retW_i hx hb hr hlocks hP hD hS (Or.inl ⟨false, w_, hq, by rw [← li0], rfl⟩) dX0_saturday_29)
abbrev hhX0_saturdays : List (Nat × Nat × Nat × Nat) := [(0, 9, 12, 13)]
theorem kX0_saturdays {R : Room} {s : State} {args : Array Value} {own : String} {idx mc ms : Nat} {rm : Room} (hts : ∀ w ∈ lw_all, w.before args s = true) (hl : Cond.methodLink own idx yX0_saturdays ∈ lw_all) (hrc : rm.cells = mc) (hrs : rm.slots = ms) (hR : rm.frames + 1 ≤ R.frames ∧ 8 + (4 + 11) + rm.locals ≤ R.locals) : vx_CSW R s args own idx yX0_saturdays cX0_saturdays 4 (some .int) hhX0_saturdays (wsW_ yX0_saturdays cX0_saturdays 4 (some .int) hhX0_saturdays) rm mc ms 3 :=
  vx_cwSW 3 hts (lw_SW hl q1733 q106 q1734) rfl hrc hrs (by decide +kernel) hR
set_option maxRecDepth 100000 in
theorem mtX0_saturdays (l : Launch) (D : va_G) (k : Nat → ClassId) (Z : zZ) (hOK : zOK D zCl (zTys k) Z) (hNc : zNc Z) (ws : va_W) (g : Nat → Int64) (ao h : Nat) (fs : List Value) (hws : ws[0]? = some (h, .inr (1, fs))) (p1 : Int32) {P : Option Value → va_W → Prop} {PX : String → va_W → Prop} {rm : Room} {mc ms : Nat} (hrc : rm.cells = mc) (hrs : rm.slots = ms) (hM : CtX l yX1_saturdays cX1_saturdays 4 (some .int) rm Z D zCl ws [.ref h, .int p1] P PX mc ms) (hv : ∀ r w, P r w → ∃ v : Int32, r = some (.int v)) (hcd : ∀ E w, PX E w → ¬ cdA E = nI 0) : CtXH l yX0_saturdays cX0_saturdays 4 (some .int) hhX0_saturdays (rW rm 4 mc ms) Z D zCl (ws ++ [ouC k ao g]) [.ref h, .int p1, .ref ao] (fun r' w' => (∃ (v : Int32) (w1 : va_W), P (some (.int v)) w1 ∧ r' = some (.int (nI 0)) ∧ w' = w1 ++ [ouC k ao (upO g v.toInt64)]) ∨ ∃ (E : String) (w1 : va_W), PX E w1 ∧ r' = some (.int (cdA E)) ∧ w' = w1 ++ [ouC k ao g]) (fun _ _ => False) mc ms := by
  refine CtXH.of (by decide) (Nat.le_of_ble_eq_true rfl) ?_
  intro p e9 s m args below meth c A hE htab hA hP hD hS hz ls hl
  obtain ⟨hx, hb, hr, hml, hown, hts, hlocks, hname⟩ := hE
  have hown : s.vm.findClass RX0 = some m.cls := hown
  have hK := hOK.1 _ _ _ hz
  have hN := hOK.2.1 _ _ _ hz
  have hl : lv_has ls 4 [(0, .ref h), (1, .int p1), (2, .ref ao)] := hl
  have hnc := hNc _ _ _ hz
  refine lv_aload_n hx hb dX0_saturdays_0 rfl (lv_at hl 2 rfl) ?_
  refine lv_iconst (v := (0 : Int32)) hx hb dX0_saturdays_1 (by decide) ?_
  refine lv_aload_n hx hb dX0_saturdays_2 rfl (lv_at hl 0 rfl) ?_
  refine lv_iload_n hx hb dX0_saturdays_3 rfl (lv_at hl 1 rfl) ?_
  have hP : va_P D zCl ([] ++ (ws ++ [ouC k ao g])) _ := hP
  have hD : va_D A ([] ++ (ws ++ [ouC k ao g])) := hD
  refine cXV [] ws [ouC k ao g] (As := [.int p1]) (ci := 1) ⟨hx, hb, hml, hown, hts⟩ hOK hz hS hA hP hD hM (kX1_saturdays hts q1735 hrc hrs ⟨(by show rm.frames + 1 ≤ rm.frames + 1; omega), (by show 8 + (4 + 11) + rm.locals ≤ 8 + (4 + 11) + rm.locals; omega)⟩) 0 hws rfl rfl hl.1 rfl (lv_room (Nat.le_of_ble_eq_true rfl)) ⟨(by show 0 + mc ≤ mc; omega), (by show 0 + ms ≤ ms; omega)⟩ dX0_saturdays_4 (fun E_ w_ ce_ q9_ H locs hq hP hD hS hce hcv hcl => ?_) (fun r_ w_ H locs hq hP hD hS => ?_)
  · have hcE := hcd _ _ hq
    have hP : va_P D zCl (w_ ++ [ouC k ao g]) _ := hP
    have hD : va_D A (w_ ++ [ouC k ao g]) := hD
    by_cases e0 : E_ = eA
    · subst e0
      refine vx_catch (own := RX0) (name := eA) hown [] ⟨0, 9, 12, 13⟩ [] (htab.trans rfl) (fun z hz9 => nomatch hz9) (by decide) (by decide) (hts _ q752) (va_Nw.use rfl (hN _ (zN_of q944 rfl))) hce hcv hcl ?_
      refine lv_astore_n (lv' := [(3, .ref q9_), (0, .ref h), (1, .int p1), (2, .ref ao)]) hx hb dX0_saturdays_12 rfl hl (by decide) rfl (fun ls hl => ?_)
      refine lv_iconst (v := (1 : Int32)) hx hb dX0_saturdays_13 (by decide) ?_
      refine widX (by omega) (by omega) ?_
      exact vx_ret (retW_i hx hb hr hlocks hP hD hS (Or.inr ⟨_, w_, hq, by rw [cdA_A, ← li1], rfl⟩) dX0_saturdays_14)
    exact absurd (by unfold cdA; rw [if_neg e0]) hcE
  have hP : va_P D zCl (w_ ++ [ouC k ao g]) _ := hP
  have hD : va_D A (w_ ++ [ouC k ao g]) := hD
  obtain ⟨v, rfl⟩ := hv _ _ hq
  refine lv_i2l (v := v.toInt64) hx hb dX0_saturdays_7 rfl ?_
  refine va_last hx hb hK hP hD hS w_.length 3 (get_last _ _) rfl out_in dX0_saturdays_8 (fun H locs hP hD hS => ?_)
  have hP : va_P D zCl ((w_ ++ [ouC k ao g]).set w_.length (ouC k ao (upO g v.toInt64))) _ := hP
  have hD : va_D A ((w_ ++ [ouC k ao g]).set w_.length (ouC k ao (upO g v.toInt64))) := hD
  rw [set_last] at hP hD
  refine lv_goto (tgt := 15) hx hb dX0_saturdays_9 (by decide) ?_
  refine lv_iconst (v := (0 : Int32)) hx hb dX0_saturdays_15 (by decide) ?_
  refine widX (by omega) (by omega) ?_
  exact vx_ret (retW_i hx hb hr hlocks hP hD hS (Or.inl ⟨v, w_, hq, by rw [← li0], rfl⟩) dX0_saturdays_16)
abbrev hhX0_sent : List (Nat × Nat × Nat × Nat) := [(0, 9, 12, 13)]
theorem kX0_sent {R : Room} {s : State} {args : Array Value} {own : String} {idx mc ms : Nat} {rm : Room} (hts : ∀ w ∈ lw_all, w.before args s = true) (hl : Cond.methodLink own idx yX0_sent ∈ lw_all) (hrc : rm.cells = mc) (hrs : rm.slots = ms) (hR : rm.frames + 1 ≤ R.frames ∧ 8 + (4 + 11) + rm.locals ≤ R.locals) : vx_CSW R s args own idx yX0_sent cX0_sent 4 (some .int) hhX0_sent (wsW_ yX0_sent cX0_sent 4 (some .int) hhX0_sent) rm mc ms 3 :=
  vx_cwSW 3 hts (lw_SW hl q1754 q106 q1755) rfl hrc hrs (by decide +kernel) hR
set_option maxRecDepth 100000 in
theorem mtX0_sent (l : Launch) (D : va_G) (k : Nat → ClassId) (Z : zZ) (hOK : zOK D zCl (zTys k) Z) (hNc : zNc Z) (ws : va_W) (g : Nat → Int64) (ao h : Nat) (fs : List Value) (hws : ws[0]? = some (h, .inr (1, fs))) (p1 : Int32) {P : Option Value → va_W → Prop} {PX : String → va_W → Prop} {rm : Room} {mc ms : Nat} (hrc : rm.cells = mc) (hrs : rm.slots = ms) (hM : CtX l yX1_sent cX1_sent 6 (some .int) rm Z D zCl ws [.ref h, .int p1] P PX mc ms) (hv : ∀ r w, P r w → ∃ v : Int32, r = some (.int v)) (hcd : ∀ E w, PX E w → ¬ cdA E = nI 0) : CtXH l yX0_sent cX0_sent 4 (some .int) hhX0_sent (rW rm 6 mc ms) Z D zCl (ws ++ [ouC k ao g]) [.ref h, .int p1, .ref ao] (fun r' w' => (∃ (v : Int32) (w1 : va_W), P (some (.int v)) w1 ∧ r' = some (.int (nI 0)) ∧ w' = w1 ++ [ouC k ao (upO g v.toInt64)]) ∨ ∃ (E : String) (w1 : va_W), PX E w1 ∧ r' = some (.int (cdA E)) ∧ w' = w1 ++ [ouC k ao g]) (fun _ _ => False) mc ms := by
  refine CtXH.of (by decide) (Nat.le_of_ble_eq_true rfl) ?_
  intro p e9 s m args below meth c A hE htab hA hP hD hS hz ls hl
  obtain ⟨hx, hb, hr, hml, hown, hts, hlocks, hname⟩ := hE
  have hown : s.vm.findClass RX0 = some m.cls := hown
  have hK := hOK.1 _ _ _ hz
  have hN := hOK.2.1 _ _ _ hz
  have hl : lv_has ls 4 [(0, .ref h), (1, .int p1), (2, .ref ao)] := hl
  have hnc := hNc _ _ _ hz
  refine lv_aload_n hx hb dX0_sent_0 rfl (lv_at hl 2 rfl) ?_
  refine lv_iconst (v := (0 : Int32)) hx hb dX0_sent_1 (by decide) ?_
  refine lv_aload_n hx hb dX0_sent_2 rfl (lv_at hl 0 rfl) ?_
  refine lv_iload_n hx hb dX0_sent_3 rfl (lv_at hl 1 rfl) ?_
  have hP : va_P D zCl ([] ++ (ws ++ [ouC k ao g])) _ := hP
  have hD : va_D A ([] ++ (ws ++ [ouC k ao g])) := hD
  refine cXV [] ws [ouC k ao g] (As := [.int p1]) (ci := 1) ⟨hx, hb, hml, hown, hts⟩ hOK hz hS hA hP hD hM (kX1_sent hts q1756 hrc hrs ⟨(by show rm.frames + 1 ≤ rm.frames + 1; omega), (by show 8 + (6 + 11) + rm.locals ≤ 8 + (6 + 11) + rm.locals; omega)⟩) 0 hws rfl rfl hl.1 rfl (lv_room (Nat.le_of_ble_eq_true rfl)) ⟨(by show 0 + mc ≤ mc; omega), (by show 0 + ms ≤ ms; omega)⟩ dX0_sent_4 (fun E_ w_ ce_ q9_ H locs hq hP hD hS hce hcv hcl => ?_) (fun r_ w_ H locs hq hP hD hS => ?_)
  · have hcE := hcd _ _ hq
    have hP : va_P D zCl (w_ ++ [ouC k ao g]) _ := hP
    have hD : va_D A (w_ ++ [ouC k ao g]) := hD
    by_cases e0 : E_ = eA
    · subst e0
      refine vx_catch (own := RX0) (name := eA) hown [] ⟨0, 9, 12, 13⟩ [] (htab.trans rfl) (fun z hz9 => nomatch hz9) (by decide) (by decide) (hts _ q752) (va_Nw.use rfl (hN _ (zN_of q944 rfl))) hce hcv hcl ?_
      refine lv_astore_n (lv' := [(3, .ref q9_), (0, .ref h), (1, .int p1), (2, .ref ao)]) hx hb dX0_sent_12 rfl hl (by decide) rfl (fun ls hl => ?_)
      refine lv_iconst (v := (1 : Int32)) hx hb dX0_sent_13 (by decide) ?_
      refine widX (by omega) (by omega) ?_
      exact vx_ret (retW_i hx hb hr hlocks hP hD hS (Or.inr ⟨_, w_, hq, by rw [cdA_A, ← li1], rfl⟩) dX0_sent_14)
    exact absurd (by unfold cdA; rw [if_neg e0]) hcE
  have hP : va_P D zCl (w_ ++ [ouC k ao g]) _ := hP
  have hD : va_D A (w_ ++ [ouC k ao g]) := hD
  obtain ⟨v, rfl⟩ := hv _ _ hq
  refine lv_i2l (v := v.toInt64) hx hb dX0_sent_7 rfl ?_
  refine va_last hx hb hK hP hD hS w_.length 3 (get_last _ _) rfl out_in dX0_sent_8 (fun H locs hP hD hS => ?_)
  have hP : va_P D zCl ((w_ ++ [ouC k ao g]).set w_.length (ouC k ao (upO g v.toInt64))) _ := hP
  have hD : va_D A ((w_ ++ [ouC k ao g]).set w_.length (ouC k ao (upO g v.toInt64))) := hD
  rw [set_last] at hP hD
  refine lv_goto (tgt := 15) hx hb dX0_sent_9 (by decide) ?_
  refine lv_iconst (v := (0 : Int32)) hx hb dX0_sent_15 (by decide) ?_
  refine widX (by omega) (by omega) ?_
  exact vx_ret (retW_i hx hb hr hlocks hP hD hS (Or.inl ⟨v, w_, hq, by rw [← li0], rfl⟩) dX0_sent_16)
abbrev hhX0_shifts : List (Nat × Nat × Nat × Nat) := [(0, 8, 11, 13)]
theorem kX0_shifts {R : Room} {s : State} {args : Array Value} {own : String} {idx mc ms : Nat} {rm : Room} (hts : ∀ w ∈ lw_all, w.before args s = true) (hl : Cond.methodLink own idx yX0_shifts ∈ lw_all) (hrc : rm.cells = mc) (hrs : rm.slots = ms) (hR : rm.frames + 1 ≤ R.frames ∧ 8 + (3 + 11) + rm.locals ≤ R.locals) : vx_CSW R s args own idx yX0_shifts cX0_shifts 3 (some .int) hhX0_shifts (wsW_ yX0_shifts cX0_shifts 3 (some .int) hhX0_shifts) rm mc ms 2 :=
  vx_cwSW 2 hts (lw_SW hl q1776 q106 q1777) rfl hrc hrs (by decide +kernel) hR
set_option maxRecDepth 100000 in
theorem mtX0_shifts (l : Launch) (D : va_G) (k : Nat → ClassId) (Z : zZ) (hOK : zOK D zCl (zTys k) Z) (hNc : zNc Z) (ws : va_W) (g : Nat → Int64) (ao h : Nat) (fs : List Value) (hws : ws[0]? = some (h, .inr (1, fs))) {P : Option Value → va_W → Prop} {PX : String → va_W → Prop} {rm : Room} {mc ms : Nat} (hrc : rm.cells = mc) (hrs : rm.slots = ms) (hM : CtX l yX1_shifts cX1_shifts 1 (some .int) rm Z D zCl ws [.ref h] P PX mc ms) (hv : ∀ r w, P r w → ∃ v : Int32, r = some (.int v)) (hcd : ∀ E w, PX E w → ¬ cdA E = nI 0) : CtXH l yX0_shifts cX0_shifts 3 (some .int) hhX0_shifts (rW rm 1 mc ms) Z D zCl (ws ++ [ouC k ao g]) [.ref h, .ref ao] (fun r' w' => (∃ (v : Int32) (w1 : va_W), P (some (.int v)) w1 ∧ r' = some (.int (nI 0)) ∧ w' = w1 ++ [ouC k ao (upO g v.toInt64)]) ∨ ∃ (E : String) (w1 : va_W), PX E w1 ∧ r' = some (.int (cdA E)) ∧ w' = w1 ++ [ouC k ao g]) (fun _ _ => False) mc ms := by
  refine CtXH.of (by decide) (Nat.le_of_ble_eq_true rfl) ?_
  intro p e9 s m args below meth c A hE htab hA hP hD hS hz ls hl
  obtain ⟨hx, hb, hr, hml, hown, hts, hlocks, hname⟩ := hE
  have hown : s.vm.findClass RX0 = some m.cls := hown
  have hK := hOK.1 _ _ _ hz
  have hN := hOK.2.1 _ _ _ hz
  have hl : lv_has ls 3 [(0, .ref h), (1, .ref ao)] := hl
  have hnc := hNc _ _ _ hz
  refine lv_aload_n hx hb dX0_shifts_0 rfl (lv_at hl 1 rfl) ?_
  refine lv_iconst (v := (0 : Int32)) hx hb dX0_shifts_1 (by decide) ?_
  refine lv_aload_n hx hb dX0_shifts_2 rfl (lv_at hl 0 rfl) ?_
  have hP : va_P D zCl ([] ++ (ws ++ [ouC k ao g])) _ := hP
  have hD : va_D A ([] ++ (ws ++ [ouC k ao g])) := hD
  refine cXV [] ws [ouC k ao g] (As := []) (ci := 1) ⟨hx, hb, hml, hown, hts⟩ hOK hz hS hA hP hD hM (kX1_shifts hts q1778 hrc hrs ⟨(by show rm.frames + 1 ≤ rm.frames + 1; omega), (by show 8 + (1 + 11) + rm.locals ≤ 8 + (1 + 11) + rm.locals; omega)⟩) 0 hws rfl rfl hl.1 rfl (lv_room (Nat.le_of_ble_eq_true rfl)) ⟨(by show 0 + mc ≤ mc; omega), (by show 0 + ms ≤ ms; omega)⟩ dX0_shifts_3 (fun E_ w_ ce_ q9_ H locs hq hP hD hS hce hcv hcl => ?_) (fun r_ w_ H locs hq hP hD hS => ?_)
  · have hcE := hcd _ _ hq
    have hP : va_P D zCl (w_ ++ [ouC k ao g]) _ := hP
    have hD : va_D A (w_ ++ [ouC k ao g]) := hD
    by_cases e0 : E_ = eA
    · subst e0
      refine vx_catch (own := RX0) (name := eA) hown [] ⟨0, 8, 11, 13⟩ [] (htab.trans rfl) (fun z hz9 => nomatch hz9) (by decide) (by decide) (hts _ q752) (va_Nw.use rfl (hN _ (zN_of q944 rfl))) hce hcv hcl ?_
      refine lv_astore_n (lv' := [(2, .ref q9_), (0, .ref h), (1, .ref ao)]) hx hb dX0_shifts_11 rfl hl (by decide) rfl (fun ls hl => ?_)
      refine lv_iconst (v := (1 : Int32)) hx hb dX0_shifts_12 (by decide) ?_
      refine widX (by omega) (by omega) ?_
      exact vx_ret (retW_i hx hb hr hlocks hP hD hS (Or.inr ⟨_, w_, hq, by rw [cdA_A, ← li1], rfl⟩) dX0_shifts_13)
    exact absurd (by unfold cdA; rw [if_neg e0]) hcE
  have hP : va_P D zCl (w_ ++ [ouC k ao g]) _ := hP
  have hD : va_D A (w_ ++ [ouC k ao g]) := hD
  obtain ⟨v, rfl⟩ := hv _ _ hq
  refine lv_i2l (v := v.toInt64) hx hb dX0_shifts_6 rfl ?_
  refine va_last hx hb hK hP hD hS w_.length 3 (get_last _ _) rfl out_in dX0_shifts_7 (fun H locs hP hD hS => ?_)
  have hP : va_P D zCl ((w_ ++ [ouC k ao g]).set w_.length (ouC k ao (upO g v.toInt64))) _ := hP
  have hD : va_D A ((w_ ++ [ouC k ao g]).set w_.length (ouC k ao (upO g v.toInt64))) := hD
  rw [set_last] at hP hD
  refine lv_goto (tgt := 14) hx hb dX0_shifts_8 (by decide) ?_
  refine lv_iconst (v := (0 : Int32)) hx hb dX0_shifts_14 (by decide) ?_
  refine widX (by omega) (by omega) ?_
  exact vx_ret (retW_i hx hb hr hlocks hP hD hS (Or.inl ⟨v, w_, hq, by rw [← li0], rfl⟩) dX0_shifts_15)
abbrev hhX0_span : List (Nat × Nat × Nat × Nat) := [(0, 10, 13, 13)]
theorem kX0_span {R : Room} {s : State} {args : Array Value} {own : String} {idx mc ms : Nat} {rm : Room} (hts : ∀ w ∈ lw_all, w.before args s = true) (hl : Cond.methodLink own idx yX0_span ∈ lw_all) (hrc : rm.cells = mc) (hrs : rm.slots = ms) (hR : rm.frames + 1 ≤ R.frames ∧ 8 + (5 + 11) + rm.locals ≤ R.locals) : vx_CSW R s args own idx yX0_span cX0_span 5 (some .int) hhX0_span (wsW_ yX0_span cX0_span 5 (some .int) hhX0_span) rm mc ms 4 :=
  vx_cwSW 4 hts (lw_SW hl q1872 q106 q1873) rfl hrc hrs (by decide +kernel) hR
set_option maxRecDepth 100000 in
theorem mtX0_span (l : Launch) (D : va_G) (k : Nat → ClassId) (Z : zZ) (hOK : zOK D zCl (zTys k) Z) (hNc : zNc Z) (ws : va_W) (g : Nat → Int64) (ao h : Nat) (fs : List Value) (hws : ws[0]? = some (h, .inr (1, fs))) (p1 : Int32) (p2 : Bool) {P : Option Value → va_W → Prop} {PX : String → va_W → Prop} {rm : Room} {mc ms : Nat} (hrc : rm.cells = mc) (hrs : rm.slots = ms) (hM : CtX l yX1_span cX1_span 6 (some .int) rm Z D zCl ws [.ref h, .int p1, .int (bz p2)] P PX mc ms) (hv : ∀ r w, P r w → ∃ v : Int32, r = some (.int v)) (hcd : ∀ E w, PX E w → ¬ cdA E = nI 0) : CtXH l yX0_span cX0_span 5 (some .int) hhX0_span (rW rm 6 mc ms) Z D zCl (ws ++ [ouC k ao g]) [.ref h, .int p1, .int (bz p2), .ref ao] (fun r' w' => (∃ (v : Int32) (w1 : va_W), P (some (.int v)) w1 ∧ r' = some (.int (nI 0)) ∧ w' = w1 ++ [ouC k ao (upO g v.toInt64)]) ∨ ∃ (E : String) (w1 : va_W), PX E w1 ∧ r' = some (.int (cdA E)) ∧ w' = w1 ++ [ouC k ao g]) (fun _ _ => False) mc ms := by
  refine CtXH.of (by decide) (Nat.le_of_ble_eq_true rfl) ?_
  intro p e9 s m args below meth c A hE htab hA hP hD hS hz ls hl
  obtain ⟨hx, hb, hr, hml, hown, hts, hlocks, hname⟩ := hE
  have hown : s.vm.findClass RX0 = some m.cls := hown
  have hK := hOK.1 _ _ _ hz
  have hN := hOK.2.1 _ _ _ hz
  have hl : lv_has ls 5 [(0, .ref h), (1, .int p1), (2, .int (bz p2)), (3, .ref ao)] := hl
  have hnc := hNc _ _ _ hz
  refine lv_aload_n hx hb dX0_span_0 rfl (lv_at hl 3 rfl) ?_
  refine lv_iconst (v := (0 : Int32)) hx hb dX0_span_1 (by decide) ?_
  refine lv_aload_n hx hb dX0_span_2 rfl (lv_at hl 0 rfl) ?_
  refine lv_iload_n hx hb dX0_span_3 rfl (lv_at hl 1 rfl) ?_
  refine lv_iload_n hx hb dX0_span_4 rfl (lv_at hl 2 rfl) ?_
  have hP : va_P D zCl ([] ++ (ws ++ [ouC k ao g])) _ := hP
  have hD : va_D A ([] ++ (ws ++ [ouC k ao g])) := hD
  refine cXV [] ws [ouC k ao g] (As := [.int p1, .int (bz p2)]) (ci := 1) ⟨hx, hb, hml, hown, hts⟩ hOK hz hS hA hP hD hM (kX1_span hts q1874 hrc hrs ⟨(by show rm.frames + 1 ≤ rm.frames + 1; omega), (by show 8 + (6 + 11) + rm.locals ≤ 8 + (6 + 11) + rm.locals; omega)⟩) 0 hws rfl rfl hl.1 rfl (lv_room (Nat.le_of_ble_eq_true rfl)) ⟨(by show 0 + mc ≤ mc; omega), (by show 0 + ms ≤ ms; omega)⟩ dX0_span_5 (fun E_ w_ ce_ q9_ H locs hq hP hD hS hce hcv hcl => ?_) (fun r_ w_ H locs hq hP hD hS => ?_)
  · have hcE := hcd _ _ hq
    have hP : va_P D zCl (w_ ++ [ouC k ao g]) _ := hP
    have hD : va_D A (w_ ++ [ouC k ao g]) := hD
    by_cases e0 : E_ = eA
    · subst e0
      refine vx_catch (own := RX0) (name := eA) hown [] ⟨0, 10, 13, 13⟩ [] (htab.trans rfl) (fun z hz9 => nomatch hz9) (by decide) (by decide) (hts _ q752) (va_Nw.use rfl (hN _ (zN_of q944 rfl))) hce hcv hcl ?_
      refine lv_astore (lv' := [(4, .ref q9_), (0, .ref h), (1, .int p1), (2, .int (bz p2)), (3, .ref ao)]) hx hb dX0_span_13 hl (by decide) rfl (fun ls hl => ?_)
      refine lv_iconst (v := (1 : Int32)) hx hb dX0_span_15 (by decide) ?_
      refine widX (by omega) (by omega) ?_
      exact vx_ret (retW_i hx hb hr hlocks hP hD hS (Or.inr ⟨_, w_, hq, by rw [cdA_A, ← li1], rfl⟩) dX0_span_16)
    exact absurd (by unfold cdA; rw [if_neg e0]) hcE
  have hP : va_P D zCl (w_ ++ [ouC k ao g]) _ := hP
  have hD : va_D A (w_ ++ [ouC k ao g]) := hD
  obtain ⟨v, rfl⟩ := hv _ _ hq
  refine lv_i2l (v := v.toInt64) hx hb dX0_span_8 rfl ?_
  refine va_last hx hb hK hP hD hS w_.length 3 (get_last _ _) rfl out_in dX0_span_9 (fun H locs hP hD hS => ?_)
  have hP : va_P D zCl ((w_ ++ [ouC k ao g]).set w_.length (ouC k ao (upO g v.toInt64))) _ := hP
  have hD : va_D A ((w_ ++ [ouC k ao g]).set w_.length (ouC k ao (upO g v.toInt64))) := hD
  rw [set_last] at hP hD
  refine lv_goto (tgt := 17) hx hb dX0_span_10 (by decide) ?_
  refine lv_iconst (v := (0 : Int32)) hx hb dX0_span_17 (by decide) ?_
  refine widX (by omega) (by omega) ?_
  exact vx_ret (retW_i hx hb hr hlocks hP hD hS (Or.inl ⟨v, w_, hq, by rw [← li0], rfl⟩) dX0_span_18)
abbrev hhX0_spread : List (Nat × Nat × Nat × Nat) := [(0, 9, 12, 13)]
theorem kX0_spread {R : Room} {s : State} {args : Array Value} {own : String} {idx mc ms : Nat} {rm : Room} (hts : ∀ w ∈ lw_all, w.before args s = true) (hl : Cond.methodLink own idx yX0_spread ∈ lw_all) (hrc : rm.cells = mc) (hrs : rm.slots = ms) (hR : rm.frames + 1 ≤ R.frames ∧ 8 + (4 + 11) + rm.locals ≤ R.locals) : vx_CSW R s args own idx yX0_spread cX0_spread 4 (some .int) hhX0_spread (wsW_ yX0_spread cX0_spread 4 (some .int) hhX0_spread) rm mc ms 3 :=
  vx_cwSW 3 hts (lw_SW hl q1854 q106 q1855) rfl hrc hrs (by decide +kernel) hR
set_option maxRecDepth 100000 in
theorem mtX0_spread (l : Launch) (D : va_G) (k : Nat → ClassId) (Z : zZ) (hOK : zOK D zCl (zTys k) Z) (hNc : zNc Z) (ws : va_W) (g : Nat → Int64) (ao h : Nat) (fs : List Value) (hws : ws[0]? = some (h, .inr (1, fs))) (p1 : Int32) {P : Option Value → va_W → Prop} {PX : String → va_W → Prop} {rm : Room} {mc ms : Nat} (hrc : rm.cells = mc) (hrs : rm.slots = ms) (hM : CtX l yX1_spread cX1_spread 6 (some .int) rm Z D zCl ws [.ref h, .int p1] P PX mc ms) (hv : ∀ r w, P r w → ∃ v : Int32, r = some (.int v)) (hcd : ∀ E w, PX E w → ¬ cdA E = nI 0) : CtXH l yX0_spread cX0_spread 4 (some .int) hhX0_spread (rW rm 6 mc ms) Z D zCl (ws ++ [ouC k ao g]) [.ref h, .int p1, .ref ao] (fun r' w' => (∃ (v : Int32) (w1 : va_W), P (some (.int v)) w1 ∧ r' = some (.int (nI 0)) ∧ w' = w1 ++ [ouC k ao (upO g v.toInt64)]) ∨ ∃ (E : String) (w1 : va_W), PX E w1 ∧ r' = some (.int (cdA E)) ∧ w' = w1 ++ [ouC k ao g]) (fun _ _ => False) mc ms := by
  refine CtXH.of (by decide) (Nat.le_of_ble_eq_true rfl) ?_
  intro p e9 s m args below meth c A hE htab hA hP hD hS hz ls hl
  obtain ⟨hx, hb, hr, hml, hown, hts, hlocks, hname⟩ := hE
  have hown : s.vm.findClass RX0 = some m.cls := hown
  have hK := hOK.1 _ _ _ hz
  have hN := hOK.2.1 _ _ _ hz
  have hl : lv_has ls 4 [(0, .ref h), (1, .int p1), (2, .ref ao)] := hl
  have hnc := hNc _ _ _ hz
  refine lv_aload_n hx hb dX0_spread_0 rfl (lv_at hl 2 rfl) ?_
  refine lv_iconst (v := (0 : Int32)) hx hb dX0_spread_1 (by decide) ?_
  refine lv_aload_n hx hb dX0_spread_2 rfl (lv_at hl 0 rfl) ?_
  refine lv_iload_n hx hb dX0_spread_3 rfl (lv_at hl 1 rfl) ?_
  have hP : va_P D zCl ([] ++ (ws ++ [ouC k ao g])) _ := hP
  have hD : va_D A ([] ++ (ws ++ [ouC k ao g])) := hD
  refine cXV [] ws [ouC k ao g] (As := [.int p1]) (ci := 1) ⟨hx, hb, hml, hown, hts⟩ hOK hz hS hA hP hD hM (kX1_spread hts q1856 hrc hrs ⟨(by show rm.frames + 1 ≤ rm.frames + 1; omega), (by show 8 + (6 + 11) + rm.locals ≤ 8 + (6 + 11) + rm.locals; omega)⟩) 0 hws rfl rfl hl.1 rfl (lv_room (Nat.le_of_ble_eq_true rfl)) ⟨(by show 0 + mc ≤ mc; omega), (by show 0 + ms ≤ ms; omega)⟩ dX0_spread_4 (fun E_ w_ ce_ q9_ H locs hq hP hD hS hce hcv hcl => ?_) (fun r_ w_ H locs hq hP hD hS => ?_)
  · have hcE := hcd _ _ hq
    have hP : va_P D zCl (w_ ++ [ouC k ao g]) _ := hP
    have hD : va_D A (w_ ++ [ouC k ao g]) := hD
    by_cases e0 : E_ = eA
    · subst e0
      refine vx_catch (own := RX0) (name := eA) hown [] ⟨0, 9, 12, 13⟩ [] (htab.trans rfl) (fun z hz9 => nomatch hz9) (by decide) (by decide) (hts _ q752) (va_Nw.use rfl (hN _ (zN_of q944 rfl))) hce hcv hcl ?_
      refine lv_astore_n (lv' := [(3, .ref q9_), (0, .ref h), (1, .int p1), (2, .ref ao)]) hx hb dX0_spread_12 rfl hl (by decide) rfl (fun ls hl => ?_)
      refine lv_iconst (v := (1 : Int32)) hx hb dX0_spread_13 (by decide) ?_
      refine widX (by omega) (by omega) ?_
      exact vx_ret (retW_i hx hb hr hlocks hP hD hS (Or.inr ⟨_, w_, hq, by rw [cdA_A, ← li1], rfl⟩) dX0_spread_14)
    exact absurd (by unfold cdA; rw [if_neg e0]) hcE
  have hP : va_P D zCl (w_ ++ [ouC k ao g]) _ := hP
  have hD : va_D A (w_ ++ [ouC k ao g]) := hD
  obtain ⟨v, rfl⟩ := hv _ _ hq
  refine lv_i2l (v := v.toInt64) hx hb dX0_spread_7 rfl ?_
  refine va_last hx hb hK hP hD hS w_.length 3 (get_last _ _) rfl out_in dX0_spread_8 (fun H locs hP hD hS => ?_)
  have hP : va_P D zCl ((w_ ++ [ouC k ao g]).set w_.length (ouC k ao (upO g v.toInt64))) _ := hP
  have hD : va_D A ((w_ ++ [ouC k ao g]).set w_.length (ouC k ao (upO g v.toInt64))) := hD
  rw [set_last] at hP hD
  refine lv_goto (tgt := 15) hx hb dX0_spread_9 (by decide) ?_
  refine lv_iconst (v := (0 : Int32)) hx hb dX0_spread_15 (by decide) ?_
  refine widX (by omega) (by omega) ?_
  exact vx_ret (retW_i hx hb hr hlocks hP hD hS (Or.inl ⟨v, w_, hq, by rw [← li0], rfl⟩) dX0_spread_16)
abbrev hhX0_stand : List (Nat × Nat × Nat × Nat) := [(0, 9, 12, 13)]
theorem kX0_stand {R : Room} {s : State} {args : Array Value} {own : String} {idx mc ms : Nat} {rm : Room} (hts : ∀ w ∈ lw_all, w.before args s = true) (hl : Cond.methodLink own idx yX0_stand ∈ lw_all) (hrc : rm.cells = mc) (hrs : rm.slots = ms) (hR : rm.frames + 1 ≤ R.frames ∧ 8 + (4 + 11) + rm.locals ≤ R.locals) : vx_CSW R s args own idx yX0_stand cX0_stand 4 (some .int) hhX0_stand (wsW_ yX0_stand cX0_stand 4 (some .int) hhX0_stand) rm mc ms 3 :=
  vx_cwSW 3 hts (lw_SW hl q1747 q106 q1748) rfl hrc hrs (by decide +kernel) hR
set_option maxRecDepth 100000 in
theorem mtX0_stand (l : Launch) (D : va_G) (k : Nat → ClassId) (Z : zZ) (hOK : zOK D zCl (zTys k) Z) (hNc : zNc Z) (ws : va_W) (g : Nat → Int64) (ao h : Nat) (fs : List Value) (hws : ws[0]? = some (h, .inr (1, fs))) (p1 : Int32) {P : Option Value → va_W → Prop} {PX : String → va_W → Prop} {rm : Room} {mc ms : Nat} (hrc : rm.cells = mc) (hrs : rm.slots = ms) (hM : CtX l yX1_stand cX1_stand 3 (some .int) rm Z D zCl ws [.ref h, .int p1] P PX mc ms) (hv : ∀ r w, P r w → ∃ v : Int32, r = some (.int v)) (hcd : ∀ E w, PX E w → ¬ cdA E = nI 0) : CtXH l yX0_stand cX0_stand 4 (some .int) hhX0_stand (rW rm 3 mc ms) Z D zCl (ws ++ [ouC k ao g]) [.ref h, .int p1, .ref ao] (fun r' w' => (∃ (v : Int32) (w1 : va_W), P (some (.int v)) w1 ∧ r' = some (.int (nI 0)) ∧ w' = w1 ++ [ouC k ao (upO g v.toInt64)]) ∨ ∃ (E : String) (w1 : va_W), PX E w1 ∧ r' = some (.int (cdA E)) ∧ w' = w1 ++ [ouC k ao g]) (fun _ _ => False) mc ms := by
  refine CtXH.of (by decide) (Nat.le_of_ble_eq_true rfl) ?_
  intro p e9 s m args below meth c A hE htab hA hP hD hS hz ls hl
  obtain ⟨hx, hb, hr, hml, hown, hts, hlocks, hname⟩ := hE
  have hown : s.vm.findClass RX0 = some m.cls := hown
  have hK := hOK.1 _ _ _ hz
  have hN := hOK.2.1 _ _ _ hz
  have hl : lv_has ls 4 [(0, .ref h), (1, .int p1), (2, .ref ao)] := hl
  have hnc := hNc _ _ _ hz
  refine lv_aload_n hx hb dX0_stand_0 rfl (lv_at hl 2 rfl) ?_
  refine lv_iconst (v := (0 : Int32)) hx hb dX0_stand_1 (by decide) ?_
  refine lv_aload_n hx hb dX0_stand_2 rfl (lv_at hl 0 rfl) ?_
  refine lv_iload_n hx hb dX0_stand_3 rfl (lv_at hl 1 rfl) ?_
  have hP : va_P D zCl ([] ++ (ws ++ [ouC k ao g])) _ := hP
  have hD : va_D A ([] ++ (ws ++ [ouC k ao g])) := hD
  refine cXV [] ws [ouC k ao g] (As := [.int p1]) (ci := 1) ⟨hx, hb, hml, hown, hts⟩ hOK hz hS hA hP hD hM (kX1_stand hts q1749 hrc hrs ⟨(by show rm.frames + 1 ≤ rm.frames + 1; omega), (by show 8 + (3 + 11) + rm.locals ≤ 8 + (3 + 11) + rm.locals; omega)⟩) 0 hws rfl rfl hl.1 rfl (lv_room (Nat.le_of_ble_eq_true rfl)) ⟨(by show 0 + mc ≤ mc; omega), (by show 0 + ms ≤ ms; omega)⟩ dX0_stand_4 (fun E_ w_ ce_ q9_ H locs hq hP hD hS hce hcv hcl => ?_) (fun r_ w_ H locs hq hP hD hS => ?_)
  · have hcE := hcd _ _ hq
    have hP : va_P D zCl (w_ ++ [ouC k ao g]) _ := hP
    have hD : va_D A (w_ ++ [ouC k ao g]) := hD
    by_cases e0 : E_ = eA
    · subst e0
      refine vx_catch (own := RX0) (name := eA) hown [] ⟨0, 9, 12, 13⟩ [] (htab.trans rfl) (fun z hz9 => nomatch hz9) (by decide) (by decide) (hts _ q752) (va_Nw.use rfl (hN _ (zN_of q944 rfl))) hce hcv hcl ?_
      refine lv_astore_n (lv' := [(3, .ref q9_), (0, .ref h), (1, .int p1), (2, .ref ao)]) hx hb dX0_stand_12 rfl hl (by decide) rfl (fun ls hl => ?_)
      refine lv_iconst (v := (1 : Int32)) hx hb dX0_stand_13 (by decide) ?_
      refine widX (by omega) (by omega) ?_
      exact vx_ret (retW_i hx hb hr hlocks hP hD hS (Or.inr ⟨_, w_, hq, by rw [cdA_A, ← li1], rfl⟩) dX0_stand_14)
    exact absurd (by unfold cdA; rw [if_neg e0]) hcE
  have hP : va_P D zCl (w_ ++ [ouC k ao g]) _ := hP
  have hD : va_D A (w_ ++ [ouC k ao g]) := hD
  obtain ⟨v, rfl⟩ := hv _ _ hq
  refine lv_i2l (v := v.toInt64) hx hb dX0_stand_7 rfl ?_
  refine va_last hx hb hK hP hD hS w_.length 3 (get_last _ _) rfl out_in dX0_stand_8 (fun H locs hP hD hS => ?_)
  have hP : va_P D zCl ((w_ ++ [ouC k ao g]).set w_.length (ouC k ao (upO g v.toInt64))) _ := hP
  have hD : va_D A ((w_ ++ [ouC k ao g]).set w_.length (ouC k ao (upO g v.toInt64))) := hD
  rw [set_last] at hP hD
  refine lv_goto (tgt := 15) hx hb dX0_stand_9 (by decide) ?_
  refine lv_iconst (v := (0 : Int32)) hx hb dX0_stand_15 (by decide) ?_
  refine widX (by omega) (by omega) ?_
  exact vx_ret (retW_i hx hb hr hlocks hP hD hS (Or.inl ⟨v, w_, hq, by rw [← li0], rfl⟩) dX0_stand_16)
abbrev hhX0_trial : List (Nat × Nat × Nat × Nat) := [(0, 10, 13, 13)]
theorem kX0_trial {R : Room} {s : State} {args : Array Value} {own : String} {idx mc ms : Nat} {rm : Room} (hts : ∀ w ∈ lw_all, w.before args s = true) (hl : Cond.methodLink own idx yX0_trial ∈ lw_all) (hrc : rm.cells = mc) (hrs : rm.slots = ms) (hR : rm.frames + 1 ≤ R.frames ∧ 8 + (5 + 11) + rm.locals ≤ R.locals) : vx_CSW R s args own idx yX0_trial cX0_trial 5 (some .int) hhX0_trial (wsW_ yX0_trial cX0_trial 5 (some .int) hhX0_trial) rm mc ms 4 :=
  vx_cwSW 4 hts (lw_SW hl q1861 q106 q1862) rfl hrc hrs (by decide +kernel) hR
set_option maxRecDepth 100000 in
theorem mtX0_trial (l : Launch) (D : va_G) (k : Nat → ClassId) (Z : zZ) (hOK : zOK D zCl (zTys k) Z) (hNc : zNc Z) (ws : va_W) (g : Nat → Int64) (ao h : Nat) (fs : List Value) (hws : ws[0]? = some (h, .inr (1, fs))) (p1 : Int32) (p2 : Bool) {P : Option Value → va_W → Prop} {PX : String → va_W → Prop} {rm : Room} {mc ms : Nat} (hrc : rm.cells = mc) (hrs : rm.slots = ms) (hM : CtX l yX1_trial cX1_trial 3 (some .int) rm Z D zCl ws [.ref h, .int p1, .int (bz p2)] P PX mc ms) (hv : ∀ r w, P r w → ∃ v : Int32, r = some (.int v)) (hcd : ∀ E w, PX E w → ¬ cdA E = nI 0) : CtXH l yX0_trial cX0_trial 5 (some .int) hhX0_trial (rW rm 3 mc ms) Z D zCl (ws ++ [ouC k ao g]) [.ref h, .int p1, .int (bz p2), .ref ao] (fun r' w' => (∃ (v : Int32) (w1 : va_W), P (some (.int v)) w1 ∧ r' = some (.int (nI 0)) ∧ w' = w1 ++ [ouC k ao (upO g v.toInt64)]) ∨ ∃ (E : String) (w1 : va_W), PX E w1 ∧ r' = some (.int (cdA E)) ∧ w' = w1 ++ [ouC k ao g]) (fun _ _ => False) mc ms := by
  refine CtXH.of (by decide) (Nat.le_of_ble_eq_true rfl) ?_
  intro p e9 s m args below meth c A hE htab hA hP hD hS hz ls hl
  obtain ⟨hx, hb, hr, hml, hown, hts, hlocks, hname⟩ := hE
  have hown : s.vm.findClass RX0 = some m.cls := hown
  have hK := hOK.1 _ _ _ hz
  have hN := hOK.2.1 _ _ _ hz
  have hl : lv_has ls 5 [(0, .ref h), (1, .int p1), (2, .int (bz p2)), (3, .ref ao)] := hl
  have hnc := hNc _ _ _ hz
  refine lv_aload_n hx hb dX0_trial_0 rfl (lv_at hl 3 rfl) ?_
  refine lv_iconst (v := (0 : Int32)) hx hb dX0_trial_1 (by decide) ?_
  refine lv_aload_n hx hb dX0_trial_2 rfl (lv_at hl 0 rfl) ?_
  refine lv_iload_n hx hb dX0_trial_3 rfl (lv_at hl 1 rfl) ?_
  refine lv_iload_n hx hb dX0_trial_4 rfl (lv_at hl 2 rfl) ?_
  have hP : va_P D zCl ([] ++ (ws ++ [ouC k ao g])) _ := hP
  have hD : va_D A ([] ++ (ws ++ [ouC k ao g])) := hD
  refine cXV [] ws [ouC k ao g] (As := [.int p1, .int (bz p2)]) (ci := 1) ⟨hx, hb, hml, hown, hts⟩ hOK hz hS hA hP hD hM (kX1_trial hts q1863 hrc hrs ⟨(by show rm.frames + 1 ≤ rm.frames + 1; omega), (by show 8 + (3 + 11) + rm.locals ≤ 8 + (3 + 11) + rm.locals; omega)⟩) 0 hws rfl rfl hl.1 rfl (lv_room (Nat.le_of_ble_eq_true rfl)) ⟨(by show 0 + mc ≤ mc; omega), (by show 0 + ms ≤ ms; omega)⟩ dX0_trial_5 (fun E_ w_ ce_ q9_ H locs hq hP hD hS hce hcv hcl => ?_) (fun r_ w_ H locs hq hP hD hS => ?_)
  · have hcE := hcd _ _ hq
    have hP : va_P D zCl (w_ ++ [ouC k ao g]) _ := hP
    have hD : va_D A (w_ ++ [ouC k ao g]) := hD
    by_cases e0 : E_ = eA
    · subst e0
      refine vx_catch (own := RX0) (name := eA) hown [] ⟨0, 10, 13, 13⟩ [] (htab.trans rfl) (fun z hz9 => nomatch hz9) (by decide) (by decide) (hts _ q752) (va_Nw.use rfl (hN _ (zN_of q944 rfl))) hce hcv hcl ?_
      refine lv_astore (lv' := [(4, .ref q9_), (0, .ref h), (1, .int p1), (2, .int (bz p2)), (3, .ref ao)]) hx hb dX0_trial_13 hl (by decide) rfl (fun ls hl => ?_)
      refine lv_iconst (v := (1 : Int32)) hx hb dX0_trial_15 (by decide) ?_
      refine widX (by omega) (by omega) ?_
      exact vx_ret (retW_i hx hb hr hlocks hP hD hS (Or.inr ⟨_, w_, hq, by rw [cdA_A, ← li1], rfl⟩) dX0_trial_16)
    exact absurd (by unfold cdA; rw [if_neg e0]) hcE
  have hP : va_P D zCl (w_ ++ [ouC k ao g]) _ := hP
  have hD : va_D A (w_ ++ [ouC k ao g]) := hD
  obtain ⟨v, rfl⟩ := hv _ _ hq
  refine lv_i2l (v := v.toInt64) hx hb dX0_trial_8 rfl ?_
  refine va_last hx hb hK hP hD hS w_.length 3 (get_last _ _) rfl out_in dX0_trial_9 (fun H locs hP hD hS => ?_)
  have hP : va_P D zCl ((w_ ++ [ouC k ao g]).set w_.length (ouC k ao (upO g v.toInt64))) _ := hP
  have hD : va_D A ((w_ ++ [ouC k ao g]).set w_.length (ouC k ao (upO g v.toInt64))) := hD
  rw [set_last] at hP hD
  refine lv_goto (tgt := 17) hx hb dX0_trial_10 (by decide) ?_
  refine lv_iconst (v := (0 : Int32)) hx hb dX0_trial_17 (by decide) ?_
  refine widX (by omega) (by omega) ?_
  exact vx_ret (retW_i hx hb hr hlocks hP hD hS (Or.inl ⟨v, w_, hq, by rw [← li0], rfl⟩) dX0_trial_18)
