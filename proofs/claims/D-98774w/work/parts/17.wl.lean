/-! THE LIST OF WORLDS -/
def zcat : List va_W → va_W
  | [] => []
  | [x] => x
  | x :: y :: r => x ++ zcat (y :: r)
theorem zcat_fl : ∀ bs : List va_W, zcat bs = bs.flatten
  | [] => rfl
  | [x] => by simp [zcat]
  | x :: y :: r => by
    show x ++ zcat (y :: r) = _
    rw [zcat_fl (y :: r)]
    rfl
theorem zblk (bs : List va_W) (n : Nat) (hn : bs.length = n) (is : List Nat) (hp : is.Perm (List.range n)) : (zcat bs).Perm (zcat (is.map (fun i => bs.getD i []))) := by
  rw [zcat_fl, zcat_fl]
  refine List.Perm.flatten ?_
  have h1 : bs = (List.range n).map (fun i => bs.getD i []) := by
    apply List.ext_getElem?
    intro i
    rw [List.getElem?_map]
    rcases Nat.lt_or_ge i n with h | h
    · rw [List.getElem?_range h]
      simp [List.getD, hn, h]
    · rw [List.getElem?_eq_none (by omega), List.getElem?_eq_none (by simpa using h)]
      rfl
  conv => lhs; rw [h1]
  exact (hp.map _).symm
theorem zbP {D : va_G} {cl : List vw_C} {H : Heap} (bs : List va_W) (n : Nat) (is : List Nat) (h : va_P D cl (zcat bs) H) (hn : bs.length = n) (hp : is.Perm (List.range n)) : va_P D cl (zcat (is.map (fun i => bs.getD i []))) H := zperm h (zblk bs n hn is hp)
theorem zbD {A : Nat → Prop} (bs : List va_W) (n : Nat) (is : List Nat) (h : va_D A (zcat bs)) (hn : bs.length = n) (hp : is.Perm (List.range n)) : va_D A (zcat (is.map (fun i => bs.getD i []))) := zpermD h (zblk bs n hn is hp)
theorem zdropP {D : va_G} {cl : List vw_C} {x y : va_W} {H : Heap} (h : va_P D cl (x ++ y) H) : va_P D cl x H := fun i q hi => h i q (by rw [List.getElem?_append_left (List.getElem?_eq_some_iff.mp hi).1]; exact hi)
theorem zdropD {A : Nat → Prop} {x y : va_W} (h : va_D A (x ++ y)) : va_D A x := by
  rw [zD_nd] at h ⊢
  refine ⟨?_, fun q hq => h.2 q (List.mem_append_left _ hq)⟩
  have := h.1
  rw [List.map_append] at this
  exact (List.nodup_append.mp this).1
abbrev uW : Type := (Nat → Nat) × Wd
def uWs (k : Nat → ClassId) (L : List uW) : va_W := L.flatMap (fun z => cW k z.1 z.2)
def uWa (L : List uW) : List Nat := L.map (fun z => z.1 0)
theorem uWs_snoc (k : Nat → ClassId) (L : List uW) (z : uW) : uWs k (L ++ [z]) = uWs k L ++ cW k z.1 z.2 := by
  unfold uWs
  rw [List.flatMap_append]
  simp
theorem uWa_snoc (L : List uW) (z : uW) : uWa (L ++ [z]) = uWa L ++ [z.1 0] := by
  unfold uWa
  rw [List.map_append]
  rfl
theorem uWa_len (L : List uW) : (uWa L).length = L.length := List.length_map _
theorem uWel (k : Nat → ClassId) (L : List uW) : ∀ y ∈ uWa L, elIn (uWs k L) y := by
  intro y hy
  obtain ⟨z, hz, rfl⟩ := List.mem_map.mp hy
  exact ⟨2, _, _, List.mem_flatMap.mpr ⟨z, hz, List.mem_cons_self ..⟩, rfl, zN_of q2506 rfl⟩
/-- the cells of the list of worlds: as yet the empty static array, or an array of its own -/
def wlP (k : Nat → ClassId) (e0 q : Nat) (us : List Wd) (w : va_W) : Prop := ∃ mc : Int32, (us = [] ∧ w = [lsO q e0 mc 0]) ∨ ∃ (e cap : Nat) (L : List uW), L.map (·.2) = us ∧ (cap = 10 ∨ cap = 15) ∧ L.length ≤ cap ∧ L.length ≤ 12 ∧ w = lsO q e mc L.length :: lsA k e cap (uWa L) :: uWs k L
def puW (us : List Wd) (u : Wd) : List Wd := if us.length = 12 then us.tail ++ [u] else us ++ [u]
theorem likens_all (u v : Wd) : ∃ o, fX2_likens u v = some o := ⟨_, rfl⟩

theorem zsP {D : va_G} {cl : List vw_C} {H : Heap} (bs : List va_W) (n : Nat) (i1 i2 : List Nat) (h : va_P D cl (zcat bs) H) (hn : bs.length = n) (hp : (i1 ++ i2).Perm (List.range n)) : va_P D cl (zcat (i1.map (fun i => bs.getD i [])) ++ zcat (i2.map (fun i => bs.getD i []))) H := by
  have h1 := zbP bs n _ h hn hp
  rw [zcat_fl, List.map_append, List.flatten_append, ← zcat_fl, ← zcat_fl] at h1
  exact h1
theorem zsD {A : Nat → Prop} (bs : List va_W) (n : Nat) (i1 i2 : List Nat) (h : va_D A (zcat bs)) (hn : bs.length = n) (hp : (i1 ++ i2).Perm (List.range n)) : va_D A (zcat (i1.map (fun i => bs.getD i [])) ++ zcat (i2.map (fun i => bs.getD i []))) := by
  have h1 := zbD bs n _ h hn hp
  rw [zcat_fl, List.map_append, List.flatten_append, ← zcat_fl, ← zcat_fl] at h1
  exact h1
theorem zjP {D : va_G} {cl : List vw_C} {H : Heap} (b1 b2 : List va_W) (h : va_P D cl (zcat b1 ++ zcat b2) H) : va_P D cl (zcat (b1 ++ b2)) H := by
  rw [zcat_fl, List.flatten_append, ← zcat_fl, ← zcat_fl]
  exact h
theorem zjD {A : Nat → Prop} (b1 b2 : List va_W) (h : va_D A (zcat b1 ++ zcat b2)) : va_D A (zcat (b1 ++ b2)) := by
  rw [zcat_fl, List.flatten_append, ← zcat_fl, ← zcat_fl]
  exact h
theorem uWel1 (k : Nat → ClassId) (a : Nat → Nat) (u : Wd) : elIn (cW k a u) (a 0) := ⟨2, _, _, List.mem_cons_self .., rfl, zN_of q2506 rfl⟩
theorem puW_n {us : List Wd} (u : Wd) (h : us.length ≠ 12) : puW us u = us ++ [u] := if_neg h
theorem puW_t {us : List Wd} (u : Wd) (h : us.length = 12) : puW us u = us.tail ++ [u] := if_pos h
theorem nI_i12 {n : Nat} (h : n ≤ 12) (e : nI n = (12 : Int32)) : n = 12 := by
  have := congrArg Int32.toInt e
  rw [nI_toInt (by omega)] at this
  have h2 : (12 : Int32).toInt = 12 := by decide
  omega
def rX1_remembers : Room := { frames := 8, cells := 10, slots := 326, locals := 300 }
theorem kX1_remembers {R : Room} {s : State} {args : Array Value} {own : String} {idx mc ms : Nat} {rm : Room} (hts : ∀ w ∈ lw_all, w.before args s = true) (hl : Cond.methodLink own idx yX1_remembers ∈ lw_all) (hrc : rm.cells = mc) (hrs : rm.slots = ms) (hR : rm.frames + 1 ≤ R.frames ∧ 8 + (2 + 11) + rm.locals ≤ R.locals) : CallW R s args own RX1 idx yX1_remembers cX1_remembers 2 none (ws_ yX1_remembers cX1_remembers 2 none) rm mc ms 0 :=
  cwV 0 hts (lw_V hl q1639 qs37 q107 q1640) rfl hrc hrs (by decide +kernel) hR
set_option maxRecDepth 100000 in
theorem mtX1_remembers (l : Launch) (D : va_G) (k : Nat → ClassId) (ah aw adr aim ard asc ath awl alo atr : Nat → Nat) (Z : zZ) (hOK : zOK D zCl (zTys k) Z) {e0 mi : Nat} (hLs : zLs Z e0 mi) (sh : Kp) (sw : Wd) (us : List Wd) (w : va_W) (hw : wlP k e0 (awl 0) us w) : CtW l yX1_remembers cX1_remembers 2 none rX1_remembers Z D zCl (((cH k ah aw adr aim ard asc ath awl alo atr sh) ++ (cW k aw sw)) ++ w) [.ref (ah 0)] (fun r' w' => ∃ (T : va_W) (u0 ou : Wd), fX2_likens u0 sw = some ou ∧ wlP k e0 (awl 0) (puW us ou) T ∧ r' = none ∧ w' = (((cH k ah aw adr aim ard asc ath awl alo atr sh) ++ (cW k aw sw)) ++ T)) 10 326 := by
  refine CtW.of (by decide) (Nat.le_of_ble_eq_true rfl) ?_
  intro p e9 s m args below meth c A hE hA hP hD hS hz ls hl
  obtain ⟨hx, hb, hr, hml, hown, hts, hlocks, hname⟩ := hE
  have hown : s.vm.findClass RX1 = some m.cls := hown
  have hK := hOK.1 _ _ _ hz
  have hN := hOK.2.1 _ _ _ hz
  have hl : lv_has ls 2 [(0, .ref (ah 0))] := hl
  obtain ⟨mc, ⟨rfl, rfl⟩ | ⟨e, cap, L, rfl, hcap, hcl, hL12, rfl⟩⟩ := hw
  · have hP : va_P D zCl ((cH k ah aw adr aim ard asc ath awl alo atr sh) ++ ((cW k aw sw) ++ [lsO (awl 0) e0 mc 0])) _ := hP
    have hD : va_D A ((cH k ah aw adr aim ard asc ath awl alo atr sh) ++ ((cW k aw sw) ++ [lsO (awl 0) e0 mc 0])) := hD
    refine lv_aload_n hx hb dX1_remembers_0 rfl (lv_at hl 0 rfl) ?_
    refine va_get (ci := 1) (v := .ref (awl 0)) (C := RX1) (T := TX1) (N := 10) hx hb hts in_X1 hown hK hP 0 rfl rfl 7 (by decide) (hts _ q378) (fun _ h9 => h9) rfl dX1_remembers_1 ?_
    refine cRV (As := []) (ci := 15) ⟨hx, hb, hml, hown, hts⟩ hOK hz hS (hP.sub (ws' := [lsO (awl 0) e0 mc 0]) [10] rfl) (mtJ2_size l D k Z hOK (awl 0) e0 mc 0) (kJ2_size hts q714 rfl rfl ⟨Nat.le_of_ble_eq_true rfl, Nat.le_of_ble_eq_true rfl⟩) 0 rfl rfl rfl hl.1 rfl (lv_room (Nat.le_of_ble_eq_true rfl)) ⟨(Nat.le_of_ble_eq_true rfl), (Nat.le_of_ble_eq_true rfl)⟩ dX1_remembers_4 ?_
    refine lv_bipush (v := (12 : Int32)) hx hb dX1_remembers_7 (by decide) ?_
    refine lv_icmp_ne (tgt := 26) hx hb dX1_remembers_9 (by decide) (fun _ => ?_) (fun c1 => absurd c1 (by decide))
    refine va_new (ci := 2) (fs := [.int 0, .int 0, .int 0, .int 0, .int 0, .int 0, .int 0, .int 0, .int 0, .int 0, .int 0, .int 0, .null, .null, .null, .null, .null, .null, .null, .null, .null]) (C := RX2) (T := TX2) (N := 21) hx hb hts in_X2 tyX2 tyX2_ok hown (hts _ q156) (hts _ q157) (hts _ q108) hK hP hD hS hA rfl (zdef 21 tyX2) (Nat.le_of_ble_eq_true rfl) (Nat.le_of_ble_eq_true rfl) dX1_remembers_26 (fun q1 H hP hD hS => ?_)
    refine lv_dup hx hb dX1_remembers_29 rfl ?_
    have hP : va_P D zCl (((cH k ah aw adr aim ard asc ath awl alo atr sh) ++ ((cW k aw sw) ++ [lsO (awl 0) e0 mc 0])) ++ ([(q1, .inr (2, [.int 0, .int 0, .int 0, .int 0, .int 0, .int 0, .int 0, .int 0, .int 0, .int 0, .int 0, .int 0, .null, .null, .null, .null, .null, .null, .null, .null, .null]))] ++ [])) _ := hP
    have hD : va_D A (((cH k ah aw adr aim ard asc ath awl alo atr sh) ++ ((cW k aw sw) ++ [lsO (awl 0) e0 mc 0])) ++ ([(q1, .inr (2, [.int 0, .int 0, .int 0, .int 0, .int 0, .int 0, .int 0, .int 0, .int 0, .int 0, .int 0, .int 0, .null, .null, .null, .null, .null, .null, .null, .null, .null]))] ++ [])) := hD
    refine cWIN ((cH k ah aw adr aim ard asc ath awl alo atr sh) ++ ((cW k aw sw) ++ [lsO (awl 0) e0 mc 0])) [(q1, .inr (2, [.int 0, .int 0, .int 0, .int 0, .int 0, .int 0, .int 0, .int 0, .int 0, .int 0, .int 0, .int 0, .null, .null, .null, .null, .null, .null, .null, .null, .null]))] [] (As := []) ⟨hx, hb, hml, hown, hts⟩ hOK hz hS hA hP hD (mtX2_init l D k Z hOK q1) (kX2_initn hN hts (hN _ (zN_of q158 rfl)) rfl rfl ⟨Nat.le_of_ble_eq_true rfl, Nat.le_of_ble_eq_true rfl⟩) rfl hl.1 rfl (lv_room (Nat.le_of_ble_eq_true rfl)) ⟨(Nat.le_of_ble_eq_true rfl), (Nat.le_of_ble_eq_true rfl)⟩ dX1_remembers_30 (fun r_ w_ H locs hq hP hD hS => ?_)
    obtain ⟨a, rfl, rfl, rfl⟩ := hq
    have hP : va_P D zCl (((cH k ah aw adr aim ard asc ath awl alo atr sh) ++ ((cW k aw sw) ++ [lsO (awl 0) e0 mc 0])) ++ (cW k a wd0)) _ := hP
    have hD : va_D A (((cH k ah aw adr aim ard asc ath awl alo atr sh) ++ ((cW k aw sw) ++ [lsO (awl 0) e0 mc 0])) ++ (cW k a wd0)) := hD
    have hP := zjP [(cH k ah aw adr aim ard asc ath awl alo atr sh), (cW k aw sw), [lsO (awl 0) e0 mc 0]] [(cW k a wd0)] hP
    have hD := zjD [(cH k ah aw adr aim ard asc ath awl alo atr sh), (cW k aw sw), [lsO (awl 0) e0 mc 0]] [(cW k a wd0)] hD
    have hP : va_P D zCl ((cH k ah aw adr aim ard asc ath awl alo atr sh) ++ ((cW k aw sw) ++ ([lsO (awl 0) e0 mc 0] ++ (cW k a wd0)))) _ := hP
    have hD : va_D A ((cH k ah aw adr aim ard asc ath awl alo atr sh) ++ ((cW k aw sw) ++ ([lsO (awl 0) e0 mc 0] ++ (cW k a wd0)))) := hD
    refine lv_astore_n (lv' := [(1, .ref (a 0)), (0, .ref (ah 0))]) hx hb dX1_remembers_33 rfl hl (by decide) rfl (fun ls hl => ?_)
    have hP : va_P D zCl ((cH k ah aw adr aim ard asc ath awl alo atr sh) ++ ((cW k aw sw) ++ ([lsO (awl 0) e0 mc 0] ++ (cW k a wd0)))) _ := hP
    have hD : va_D A ((cH k ah aw adr aim ard asc ath awl alo atr sh) ++ ((cW k aw sw) ++ ([lsO (awl 0) e0 mc 0] ++ (cW k a wd0)))) := hD
    refine lv_aload_n hx hb dX1_remembers_34 rfl (lv_at hl 1 rfl) ?_
    refine va_get (ci := 1) (v := .ref (awl 0)) (C := RX1) (T := TX1) (N := 10) hx hb hts in_X1 hown hK hP 0 rfl rfl 7 (by decide) (hts _ q378) (fun _ h9 => h9) rfl dX1_remembers_35 ?_
    refine lv_aload_n hx hb dX1_remembers_38 rfl (lv_at hl 0 rfl) ?_
    refine lv_aload_n hx hb dX1_remembers_39 rfl (lv_at hl 1 rfl) ?_
    refine va_get (ci := 1) (v := .ref (aw 0)) (C := RX1) (T := TX1) (N := 10) hx hb hts in_X1 hown hK hP 0 rfl rfl 0 (by decide) (hts _ q370) (fun _ h9 => h9) rfl dX1_remembers_40 ?_
    obtain ⟨ou, hou⟩ := likens_all wd0 sw
    have hP := zsP [(cH k ah aw adr aim ard asc ath awl alo atr sh), (cW k aw sw), [lsO (awl 0) e0 mc 0], (cW k a wd0)] 4 [0, 2] [3, 1] hP rfl (by decide)
    have hD := zsD [(cH k ah aw adr aim ard asc ath awl alo atr sh), (cW k aw sw), [lsO (awl 0) e0 mc 0], (cW k a wd0)] 4 [0, 2] [3, 1] hD rfl (by decide)
    have hP : va_P D zCl (((cH k ah aw adr aim ard asc ath awl alo atr sh) ++ [lsO (awl 0) e0 mc 0]) ++ ((cW k a wd0) ++ (cW k aw sw))) _ := hP
    have hD : va_D A (((cH k ah aw adr aim ard asc ath awl alo atr sh) ++ [lsO (awl 0) e0 mc 0]) ++ ((cW k a wd0) ++ (cW k aw sw))) := hD
    refine cWVP ((cH k ah aw adr aim ard asc ath awl alo atr sh) ++ [lsO (awl 0) e0 mc 0]) ((cW k a wd0) ++ (cW k aw sw)) (As := [.ref (aw 0)]) (ci := 2) ⟨hx, hb, hml, hown, hts⟩ hOK hz hS hA hP hD (mtX2_likens l D k a aw Z hOK _ _ _ hou) (kX2_likens hts q434 rfl rfl ⟨Nat.le_of_ble_eq_true rfl, Nat.le_of_ble_eq_true rfl⟩) 0 rfl rfl rfl hl.1 rfl (lv_room (Nat.le_of_ble_eq_true rfl)) ⟨(Nat.le_of_ble_eq_true rfl), (Nat.le_of_ble_eq_true rfl)⟩ dX1_remembers_43 (fun r_ w_ H locs hq hP hD hS => ?_)
    obtain ⟨rfl, rfl⟩ := hq
    have hP := zjP [(cH k ah aw adr aim ard asc ath awl alo atr sh), [lsO (awl 0) e0 mc 0]] [(cW k a ou), (cW k aw sw)] hP
    have hD := zjD [(cH k ah aw adr aim ard asc ath awl alo atr sh), [lsO (awl 0) e0 mc 0]] [(cW k a ou), (cW k aw sw)] hD
    have hP : va_P D zCl ((cH k ah aw adr aim ard asc ath awl alo atr sh) ++ ([lsO (awl 0) e0 mc 0] ++ ((cW k a ou) ++ (cW k aw sw)))) _ := hP
    have hD : va_D A ((cH k ah aw adr aim ard asc ath awl alo atr sh) ++ ([lsO (awl 0) e0 mc 0] ++ ((cW k a ou) ++ (cW k aw sw)))) := hD
    have hP := zbP [(cH k ah aw adr aim ard asc ath awl alo atr sh), [lsO (awl 0) e0 mc 0], (cW k a ou), (cW k aw sw)] 4 [0, 3, 1, 2] hP rfl (by decide)
    have hD := zbD [(cH k ah aw adr aim ard asc ath awl alo atr sh), [lsO (awl 0) e0 mc 0], (cW k a ou), (cW k aw sw)] 4 [0, 3, 1, 2] hD rfl (by decide)
    have hP : va_P D zCl ((cH k ah aw adr aim ard asc ath awl alo atr sh) ++ ((cW k aw sw) ++ ([lsO (awl 0) e0 mc 0] ++ (cW k a ou)))) _ := hP
    have hD : va_D A ((cH k ah aw adr aim ard asc ath awl alo atr sh) ++ ((cW k aw sw) ++ ([lsO (awl 0) e0 mc 0] ++ (cW k a ou)))) := hD
    have hP := zsP [(cH k ah aw adr aim ard asc ath awl alo atr sh), (cW k aw sw), [lsO (awl 0) e0 mc 0], (cW k a ou)] 4 [0, 1] [2, 3] hP rfl (by decide)
    have hD := zsD [(cH k ah aw adr aim ard asc ath awl alo atr sh), (cW k aw sw), [lsO (awl 0) e0 mc 0], (cW k a ou)] 4 [0, 1] [2, 3] hD rfl (by decide)
    have hP : va_P D zCl (((cH k ah aw adr aim ard asc ath awl alo atr sh) ++ (cW k aw sw)) ++ (lsO (awl 0) e0 mc 0 :: (cW k a ou))) _ := hP
    have hD : va_D A (((cH k ah aw adr aim ard asc ath awl alo atr sh) ++ (cW k aw sw)) ++ (lsO (awl 0) e0 mc 0 :: (cW k a ou))) := hD
    refine cWVP ((cH k ah aw adr aim ard asc ath awl alo atr sh) ++ (cW k aw sw)) (lsO (awl 0) e0 mc 0 :: (cW k a ou)) (As := [.ref (a 0)]) (ci := 15) ⟨hx, hb, hml, hown, hts⟩ hOK hz hS hA hP hD (mtJ2_addz l D k Z hOK hLs (awl 0) (a 0) mc (cW k a ou) (uWel1 k a ou)) (kJ2_add hts q1439 rfl rfl ⟨Nat.le_of_ble_eq_true rfl, Nat.le_of_ble_eq_true rfl⟩) 0 rfl rfl rfl hl.1 rfl (lv_room (Nat.le_of_ble_eq_true rfl)) ⟨(Nat.le_of_ble_eq_true rfl), (Nat.le_of_ble_eq_true rfl)⟩ dX1_remembers_46 (fun r_ w_ H locs hq hP hD hS => ?_)
    obtain ⟨e', rfl, rfl⟩ := hq
    have hP := zjP [(cH k ah aw adr aim ard asc ath awl alo atr sh), (cW k aw sw)] [(lsO (awl 0) e' (mc + nI 1) (0 + 1) :: lsA k e' 10 ([] ++ [a 0]) :: (cW k a ou))] hP
    have hD := zjD [(cH k ah aw adr aim ard asc ath awl alo atr sh), (cW k aw sw)] [(lsO (awl 0) e' (mc + nI 1) (0 + 1) :: lsA k e' 10 ([] ++ [a 0]) :: (cW k a ou))] hD
    have hP : va_P D zCl ((cH k ah aw adr aim ard asc ath awl alo atr sh) ++ ((cW k aw sw) ++ (lsO (awl 0) e' (mc + nI 1) (0 + 1) :: lsA k e' 10 ([] ++ [a 0]) :: (cW k a ou)))) _ := hP
    have hD : va_D A ((cH k ah aw adr aim ard asc ath awl alo atr sh) ++ ((cW k aw sw) ++ (lsO (awl 0) e' (mc + nI 1) (0 + 1) :: lsA k e' 10 ([] ++ [a 0]) :: (cW k a ou)))) := hD
    refine lv_pop hx hb dX1_remembers_49 rfl ?_
    refine W.widen (k := 10) (n := 326) (Nat.le_of_ble_eq_true rfl) (Nat.le_of_ble_eq_true rfl) ?_
    exact retW_v hx hb hr hlocks hP hD hS ⟨(lsO (awl 0) e' (mc + nI 1) (0 + 1) :: lsA k e' 10 ([] ++ [a 0]) :: (cW k a ou)), wd0, ou, hou, ⟨mc + nI 1, Or.inr ⟨e', 10, [(a, ou)], rfl, Or.inl rfl, (Nat.le_of_ble_eq_true rfl), (Nat.le_of_ble_eq_true rfl), rfl⟩⟩, rfl, rfl⟩ dX1_remembers_50
  · have hP : va_P D zCl ((cH k ah aw adr aim ard asc ath awl alo atr sh) ++ ((cW k aw sw) ++ (lsO (awl 0) e mc L.length :: lsA k e cap (uWa L) :: uWs k L))) _ := hP
    have hD : va_D A ((cH k ah aw adr aim ard asc ath awl alo atr sh) ++ ((cW k aw sw) ++ (lsO (awl 0) e mc L.length :: lsA k e cap (uWa L) :: uWs k L))) := hD
    refine lv_aload_n hx hb dX1_remembers_0 rfl (lv_at hl 0 rfl) ?_
    refine va_get (ci := 1) (v := .ref (awl 0)) (C := RX1) (T := TX1) (N := 10) hx hb hts in_X1 hown hK hP 0 rfl rfl 7 (by decide) (hts _ q378) (fun _ h9 => h9) rfl dX1_remembers_1 ?_
    refine cRV (As := []) (ci := 15) ⟨hx, hb, hml, hown, hts⟩ hOK hz hS (hP.sub (ws' := [lsO (awl 0) e mc L.length]) [10] rfl) (mtJ2_size l D k Z hOK (awl 0) e mc L.length) (kJ2_size hts q714 rfl rfl ⟨Nat.le_of_ble_eq_true rfl, Nat.le_of_ble_eq_true rfl⟩) 0 rfl rfl rfl hl.1 rfl (lv_room (Nat.le_of_ble_eq_true rfl)) ⟨(Nat.le_of_ble_eq_true rfl), (Nat.le_of_ble_eq_true rfl)⟩ dX1_remembers_4 ?_
    refine lv_bipush (v := (12 : Int32)) hx hb dX1_remembers_7 (by decide) ?_
    refine lv_icmp_ne (tgt := 26) hx hb dX1_remembers_9 (by decide) (fun c1 => ?_) (fun c1 => ?_)
    · have hn12 : L.length ≠ 12 := fun e9 => c1 (by rw [e9]; rfl)
      refine va_new (ci := 2) (fs := [.int 0, .int 0, .int 0, .int 0, .int 0, .int 0, .int 0, .int 0, .int 0, .int 0, .int 0, .int 0, .null, .null, .null, .null, .null, .null, .null, .null, .null]) (C := RX2) (T := TX2) (N := 21) hx hb hts in_X2 tyX2 tyX2_ok hown (hts _ q156) (hts _ q157) (hts _ q108) hK hP hD hS hA rfl (zdef 21 tyX2) (Nat.le_of_ble_eq_true rfl) (Nat.le_of_ble_eq_true rfl) dX1_remembers_26 (fun q1 H hP hD hS => ?_)
      refine lv_dup hx hb dX1_remembers_29 rfl ?_
      have hP : va_P D zCl (((cH k ah aw adr aim ard asc ath awl alo atr sh) ++ ((cW k aw sw) ++ (lsO (awl 0) e mc L.length :: lsA k e cap (uWa L) :: uWs k L))) ++ ([(q1, .inr (2, [.int 0, .int 0, .int 0, .int 0, .int 0, .int 0, .int 0, .int 0, .int 0, .int 0, .int 0, .int 0, .null, .null, .null, .null, .null, .null, .null, .null, .null]))] ++ [])) _ := hP
      have hD : va_D A (((cH k ah aw adr aim ard asc ath awl alo atr sh) ++ ((cW k aw sw) ++ (lsO (awl 0) e mc L.length :: lsA k e cap (uWa L) :: uWs k L))) ++ ([(q1, .inr (2, [.int 0, .int 0, .int 0, .int 0, .int 0, .int 0, .int 0, .int 0, .int 0, .int 0, .int 0, .int 0, .null, .null, .null, .null, .null, .null, .null, .null, .null]))] ++ [])) := hD
      refine cWIN ((cH k ah aw adr aim ard asc ath awl alo atr sh) ++ ((cW k aw sw) ++ (lsO (awl 0) e mc L.length :: lsA k e cap (uWa L) :: uWs k L))) [(q1, .inr (2, [.int 0, .int 0, .int 0, .int 0, .int 0, .int 0, .int 0, .int 0, .int 0, .int 0, .int 0, .int 0, .null, .null, .null, .null, .null, .null, .null, .null, .null]))] [] (As := []) ⟨hx, hb, hml, hown, hts⟩ hOK hz hS hA hP hD (mtX2_init l D k Z hOK q1) (kX2_initn hN hts (hN _ (zN_of q158 rfl)) rfl rfl ⟨Nat.le_of_ble_eq_true rfl, Nat.le_of_ble_eq_true rfl⟩) rfl hl.1 rfl (lv_room (Nat.le_of_ble_eq_true rfl)) ⟨(Nat.le_of_ble_eq_true rfl), (Nat.le_of_ble_eq_true rfl)⟩ dX1_remembers_30 (fun r_ w_ H locs hq hP hD hS => ?_)
      obtain ⟨a, rfl, rfl, rfl⟩ := hq
      have hP : va_P D zCl (((cH k ah aw adr aim ard asc ath awl alo atr sh) ++ ((cW k aw sw) ++ (lsO (awl 0) e mc L.length :: lsA k e cap (uWa L) :: uWs k L))) ++ (cW k a wd0)) _ := hP
      have hD : va_D A (((cH k ah aw adr aim ard asc ath awl alo atr sh) ++ ((cW k aw sw) ++ (lsO (awl 0) e mc L.length :: lsA k e cap (uWa L) :: uWs k L))) ++ (cW k a wd0)) := hD
      have hP := zjP [(cH k ah aw adr aim ard asc ath awl alo atr sh), (cW k aw sw), (lsO (awl 0) e mc L.length :: lsA k e cap (uWa L) :: uWs k L)] [(cW k a wd0)] hP
      have hD := zjD [(cH k ah aw adr aim ard asc ath awl alo atr sh), (cW k aw sw), (lsO (awl 0) e mc L.length :: lsA k e cap (uWa L) :: uWs k L)] [(cW k a wd0)] hD
      have hP : va_P D zCl ((cH k ah aw adr aim ard asc ath awl alo atr sh) ++ ((cW k aw sw) ++ ((lsO (awl 0) e mc L.length :: lsA k e cap (uWa L) :: uWs k L) ++ (cW k a wd0)))) _ := hP
      have hD : va_D A ((cH k ah aw adr aim ard asc ath awl alo atr sh) ++ ((cW k aw sw) ++ ((lsO (awl 0) e mc L.length :: lsA k e cap (uWa L) :: uWs k L) ++ (cW k a wd0)))) := hD
      refine lv_astore_n (lv' := [(1, .ref (a 0)), (0, .ref (ah 0))]) hx hb dX1_remembers_33 rfl hl (by decide) rfl (fun ls hl => ?_)
      rcases Nat.lt_or_ge L.length cap with hlt | hge
      · have hP : va_P D zCl ((cH k ah aw adr aim ard asc ath awl alo atr sh) ++ ((cW k aw sw) ++ ((lsO (awl 0) e mc L.length :: lsA k e cap (uWa L) :: uWs k L) ++ (cW k a wd0)))) _ := hP
        have hD : va_D A ((cH k ah aw adr aim ard asc ath awl alo atr sh) ++ ((cW k aw sw) ++ ((lsO (awl 0) e mc L.length :: lsA k e cap (uWa L) :: uWs k L) ++ (cW k a wd0)))) := hD
        refine lv_aload_n hx hb dX1_remembers_34 rfl (lv_at hl 1 rfl) ?_
        refine va_get (ci := 1) (v := .ref (awl 0)) (C := RX1) (T := TX1) (N := 10) hx hb hts in_X1 hown hK hP 0 rfl rfl 7 (by decide) (hts _ q378) (fun _ h9 => h9) rfl dX1_remembers_35 ?_
        refine lv_aload_n hx hb dX1_remembers_38 rfl (lv_at hl 0 rfl) ?_
        refine lv_aload_n hx hb dX1_remembers_39 rfl (lv_at hl 1 rfl) ?_
        refine va_get (ci := 1) (v := .ref (aw 0)) (C := RX1) (T := TX1) (N := 10) hx hb hts in_X1 hown hK hP 0 rfl rfl 0 (by decide) (hts _ q370) (fun _ h9 => h9) rfl dX1_remembers_40 ?_
        obtain ⟨ou, hou⟩ := likens_all wd0 sw
        have hP := zsP [(cH k ah aw adr aim ard asc ath awl alo atr sh), (cW k aw sw), (lsO (awl 0) e mc L.length :: lsA k e cap (uWa L) :: uWs k L), (cW k a wd0)] 4 [0, 2] [3, 1] hP rfl (by decide)
        have hD := zsD [(cH k ah aw adr aim ard asc ath awl alo atr sh), (cW k aw sw), (lsO (awl 0) e mc L.length :: lsA k e cap (uWa L) :: uWs k L), (cW k a wd0)] 4 [0, 2] [3, 1] hD rfl (by decide)
        have hP : va_P D zCl (((cH k ah aw adr aim ard asc ath awl alo atr sh) ++ (lsO (awl 0) e mc L.length :: lsA k e cap (uWa L) :: uWs k L)) ++ ((cW k a wd0) ++ (cW k aw sw))) _ := hP
        have hD : va_D A (((cH k ah aw adr aim ard asc ath awl alo atr sh) ++ (lsO (awl 0) e mc L.length :: lsA k e cap (uWa L) :: uWs k L)) ++ ((cW k a wd0) ++ (cW k aw sw))) := hD
        refine cWVP ((cH k ah aw adr aim ard asc ath awl alo atr sh) ++ (lsO (awl 0) e mc L.length :: lsA k e cap (uWa L) :: uWs k L)) ((cW k a wd0) ++ (cW k aw sw)) (As := [.ref (aw 0)]) (ci := 2) ⟨hx, hb, hml, hown, hts⟩ hOK hz hS hA hP hD (mtX2_likens l D k a aw Z hOK _ _ _ hou) (kX2_likens hts q434 rfl rfl ⟨Nat.le_of_ble_eq_true rfl, Nat.le_of_ble_eq_true rfl⟩) 0 rfl rfl rfl hl.1 rfl (lv_room (Nat.le_of_ble_eq_true rfl)) ⟨(Nat.le_of_ble_eq_true rfl), (Nat.le_of_ble_eq_true rfl)⟩ dX1_remembers_43 (fun r_ w_ H locs hq hP hD hS => ?_)
        obtain ⟨rfl, rfl⟩ := hq
        have hP := zjP [(cH k ah aw adr aim ard asc ath awl alo atr sh), (lsO (awl 0) e mc L.length :: lsA k e cap (uWa L) :: uWs k L)] [(cW k a ou), (cW k aw sw)] hP
        have hD := zjD [(cH k ah aw adr aim ard asc ath awl alo atr sh), (lsO (awl 0) e mc L.length :: lsA k e cap (uWa L) :: uWs k L)] [(cW k a ou), (cW k aw sw)] hD
        have hP : va_P D zCl ((cH k ah aw adr aim ard asc ath awl alo atr sh) ++ ((lsO (awl 0) e mc L.length :: lsA k e cap (uWa L) :: uWs k L) ++ ((cW k a ou) ++ (cW k aw sw)))) _ := hP
        have hD : va_D A ((cH k ah aw adr aim ard asc ath awl alo atr sh) ++ ((lsO (awl 0) e mc L.length :: lsA k e cap (uWa L) :: uWs k L) ++ ((cW k a ou) ++ (cW k aw sw)))) := hD
        have hP := zbP [(cH k ah aw adr aim ard asc ath awl alo atr sh), (lsO (awl 0) e mc L.length :: lsA k e cap (uWa L) :: uWs k L), (cW k a ou), (cW k aw sw)] 4 [0, 3, 1, 2] hP rfl (by decide)
        have hD := zbD [(cH k ah aw adr aim ard asc ath awl alo atr sh), (lsO (awl 0) e mc L.length :: lsA k e cap (uWa L) :: uWs k L), (cW k a ou), (cW k aw sw)] 4 [0, 3, 1, 2] hD rfl (by decide)
        have hP : va_P D zCl ((cH k ah aw adr aim ard asc ath awl alo atr sh) ++ ((cW k aw sw) ++ ((lsO (awl 0) e mc L.length :: lsA k e cap (uWa L) :: uWs k L) ++ (cW k a ou)))) _ := hP
        have hD : va_D A ((cH k ah aw adr aim ard asc ath awl alo atr sh) ++ ((cW k aw sw) ++ ((lsO (awl 0) e mc L.length :: lsA k e cap (uWa L) :: uWs k L) ++ (cW k a ou)))) := hD
        have hP := zsP [(cH k ah aw adr aim ard asc ath awl alo atr sh), (cW k aw sw), (lsO (awl 0) e mc L.length :: lsA k e cap (uWa L) :: uWs k L), (cW k a ou)] 4 [0, 1] [2, 3] hP rfl (by decide)
        have hD := zsD [(cH k ah aw adr aim ard asc ath awl alo atr sh), (cW k aw sw), (lsO (awl 0) e mc L.length :: lsA k e cap (uWa L) :: uWs k L), (cW k a ou)] 4 [0, 1] [2, 3] hD rfl (by decide)
        have hP : va_P D zCl (((cH k ah aw adr aim ard asc ath awl alo atr sh) ++ (cW k aw sw)) ++ (lsO (awl 0) e mc L.length :: lsA k e cap (uWa L) :: (uWs k L ++ (cW k a ou)))) _ := hP
        have hD : va_D A (((cH k ah aw adr aim ard asc ath awl alo atr sh) ++ (cW k aw sw)) ++ (lsO (awl 0) e mc L.length :: lsA k e cap (uWa L) :: (uWs k L ++ (cW k a ou)))) := hD
        refine cWVP ((cH k ah aw adr aim ard asc ath awl alo atr sh) ++ (cW k aw sw)) (lsO (awl 0) e mc L.length :: lsA k e cap (uWa L) :: (uWs k L ++ (cW k a ou))) (As := [.ref (a 0)]) (ci := 15) ⟨hx, hb, hml, hown, hts⟩ hOK hz hS hA hP hD (mtJ2_addn l D k Z hOK hLs (awl 0) e (a 0) mc L.length cap (uWa L) (uWs k L ++ (cW k a ou)) (uWa_len L) hlt (by omega) ((uWel1 k a ou).mono (fun q hq => List.mem_append_right _ hq))) (kJ2_add hts q1439 rfl rfl ⟨Nat.le_of_ble_eq_true rfl, Nat.le_of_ble_eq_true rfl⟩) 0 rfl rfl rfl hl.1 rfl (lv_room (Nat.le_of_ble_eq_true rfl)) ⟨(Nat.le_of_ble_eq_true rfl), (Nat.le_of_ble_eq_true rfl)⟩ dX1_remembers_46 (fun r_ w_ H locs hq hP hD hS => ?_)
        obtain ⟨rfl, rfl⟩ := hq
        have hP := zjP [(cH k ah aw adr aim ard asc ath awl alo atr sh), (cW k aw sw)] [(lsO (awl 0) e (mc + nI 1) (L.length + 1) :: lsA k e cap (uWa L ++ [a 0]) :: (uWs k L ++ (cW k a ou)))] hP
        have hD := zjD [(cH k ah aw adr aim ard asc ath awl alo atr sh), (cW k aw sw)] [(lsO (awl 0) e (mc + nI 1) (L.length + 1) :: lsA k e cap (uWa L ++ [a 0]) :: (uWs k L ++ (cW k a ou)))] hD
        have hP : va_P D zCl ((cH k ah aw adr aim ard asc ath awl alo atr sh) ++ ((cW k aw sw) ++ (lsO (awl 0) e (mc + nI 1) (L.length + 1) :: lsA k e cap (uWa L ++ [a 0]) :: (uWs k L ++ (cW k a ou))))) _ := hP
        have hD : va_D A ((cH k ah aw adr aim ard asc ath awl alo atr sh) ++ ((cW k aw sw) ++ (lsO (awl 0) e (mc + nI 1) (L.length + 1) :: lsA k e cap (uWa L ++ [a 0]) :: (uWs k L ++ (cW k a ou))))) := hD
        refine lv_pop hx hb dX1_remembers_49 rfl ?_
        refine W.widen (k := 10) (n := 326) (Nat.le_of_ble_eq_true rfl) (Nat.le_of_ble_eq_true rfl) ?_
        exact retW_v hx hb hr hlocks hP hD hS ⟨(lsO (awl 0) e (mc + nI 1) (L.length + 1) :: lsA k e cap (uWa L ++ [a 0]) :: (uWs k L ++ (cW k a ou))), wd0, ou, hou, ⟨mc + nI 1, Or.inr ⟨e, cap, L ++ [(a, ou)], (by rw [List.map_append, puW_n _ (by rw [List.length_map]; exact hn12)]; rfl), hcap, (by rw [List.length_append, List.length_singleton]; omega), (by rw [List.length_append, List.length_singleton]; omega), (by rw [uWs_snoc, uWa_snoc, List.length_append]; rfl)⟩⟩, rfl, rfl⟩ dX1_remembers_50
      · have hc10 : L.length = 10 := by omega
        have hcE : cap = L.length := by omega
        subst hcE
        have hlc : L.length + 1 ≤ lsCap L.length := by rw [hc10]; decide
        have hP : va_P D zCl ((cH k ah aw adr aim ard asc ath awl alo atr sh) ++ ((cW k aw sw) ++ ((lsO (awl 0) e mc L.length :: lsA k e L.length (uWa L) :: uWs k L) ++ (cW k a wd0)))) _ := hP
        have hD : va_D A ((cH k ah aw adr aim ard asc ath awl alo atr sh) ++ ((cW k aw sw) ++ ((lsO (awl 0) e mc L.length :: lsA k e L.length (uWa L) :: uWs k L) ++ (cW k a wd0)))) := hD
        refine lv_aload_n hx hb dX1_remembers_34 rfl (lv_at hl 1 rfl) ?_
        refine va_get (ci := 1) (v := .ref (awl 0)) (C := RX1) (T := TX1) (N := 10) hx hb hts in_X1 hown hK hP 0 rfl rfl 7 (by decide) (hts _ q378) (fun _ h9 => h9) rfl dX1_remembers_35 ?_
        refine lv_aload_n hx hb dX1_remembers_38 rfl (lv_at hl 0 rfl) ?_
        refine lv_aload_n hx hb dX1_remembers_39 rfl (lv_at hl 1 rfl) ?_
        refine va_get (ci := 1) (v := .ref (aw 0)) (C := RX1) (T := TX1) (N := 10) hx hb hts in_X1 hown hK hP 0 rfl rfl 0 (by decide) (hts _ q370) (fun _ h9 => h9) rfl dX1_remembers_40 ?_
        obtain ⟨ou, hou⟩ := likens_all wd0 sw
        have hP := zsP [(cH k ah aw adr aim ard asc ath awl alo atr sh), (cW k aw sw), (lsO (awl 0) e mc L.length :: lsA k e L.length (uWa L) :: uWs k L), (cW k a wd0)] 4 [0, 2] [3, 1] hP rfl (by decide)
        have hD := zsD [(cH k ah aw adr aim ard asc ath awl alo atr sh), (cW k aw sw), (lsO (awl 0) e mc L.length :: lsA k e L.length (uWa L) :: uWs k L), (cW k a wd0)] 4 [0, 2] [3, 1] hD rfl (by decide)
        have hP : va_P D zCl (((cH k ah aw adr aim ard asc ath awl alo atr sh) ++ (lsO (awl 0) e mc L.length :: lsA k e L.length (uWa L) :: uWs k L)) ++ ((cW k a wd0) ++ (cW k aw sw))) _ := hP
        have hD : va_D A (((cH k ah aw adr aim ard asc ath awl alo atr sh) ++ (lsO (awl 0) e mc L.length :: lsA k e L.length (uWa L) :: uWs k L)) ++ ((cW k a wd0) ++ (cW k aw sw))) := hD
        refine cWVP ((cH k ah aw adr aim ard asc ath awl alo atr sh) ++ (lsO (awl 0) e mc L.length :: lsA k e L.length (uWa L) :: uWs k L)) ((cW k a wd0) ++ (cW k aw sw)) (As := [.ref (aw 0)]) (ci := 2) ⟨hx, hb, hml, hown, hts⟩ hOK hz hS hA hP hD (mtX2_likens l D k a aw Z hOK _ _ _ hou) (kX2_likens hts q434 rfl rfl ⟨Nat.le_of_ble_eq_true rfl, Nat.le_of_ble_eq_true rfl⟩) 0 rfl rfl rfl hl.1 rfl (lv_room (Nat.le_of_ble_eq_true rfl)) ⟨(Nat.le_of_ble_eq_true rfl), (Nat.le_of_ble_eq_true rfl)⟩ dX1_remembers_43 (fun r_ w_ H locs hq hP hD hS => ?_)
        obtain ⟨rfl, rfl⟩ := hq
        have hP := zjP [(cH k ah aw adr aim ard asc ath awl alo atr sh), (lsO (awl 0) e mc L.length :: lsA k e L.length (uWa L) :: uWs k L)] [(cW k a ou), (cW k aw sw)] hP
        have hD := zjD [(cH k ah aw adr aim ard asc ath awl alo atr sh), (lsO (awl 0) e mc L.length :: lsA k e L.length (uWa L) :: uWs k L)] [(cW k a ou), (cW k aw sw)] hD
        have hP : va_P D zCl ((cH k ah aw adr aim ard asc ath awl alo atr sh) ++ ((lsO (awl 0) e mc L.length :: lsA k e L.length (uWa L) :: uWs k L) ++ ((cW k a ou) ++ (cW k aw sw)))) _ := hP
        have hD : va_D A ((cH k ah aw adr aim ard asc ath awl alo atr sh) ++ ((lsO (awl 0) e mc L.length :: lsA k e L.length (uWa L) :: uWs k L) ++ ((cW k a ou) ++ (cW k aw sw)))) := hD
        have hP := zbP [(cH k ah aw adr aim ard asc ath awl alo atr sh), (lsO (awl 0) e mc L.length :: lsA k e L.length (uWa L) :: uWs k L), (cW k a ou), (cW k aw sw)] 4 [0, 3, 1, 2] hP rfl (by decide)
        have hD := zbD [(cH k ah aw adr aim ard asc ath awl alo atr sh), (lsO (awl 0) e mc L.length :: lsA k e L.length (uWa L) :: uWs k L), (cW k a ou), (cW k aw sw)] 4 [0, 3, 1, 2] hD rfl (by decide)
        have hP : va_P D zCl ((cH k ah aw adr aim ard asc ath awl alo atr sh) ++ ((cW k aw sw) ++ ((lsO (awl 0) e mc L.length :: lsA k e L.length (uWa L) :: uWs k L) ++ (cW k a ou)))) _ := hP
        have hD : va_D A ((cH k ah aw adr aim ard asc ath awl alo atr sh) ++ ((cW k aw sw) ++ ((lsO (awl 0) e mc L.length :: lsA k e L.length (uWa L) :: uWs k L) ++ (cW k a ou)))) := hD
        have hP := zsP [(cH k ah aw adr aim ard asc ath awl alo atr sh), (cW k aw sw), (lsO (awl 0) e mc L.length :: lsA k e L.length (uWa L) :: uWs k L), (cW k a ou)] 4 [0, 1] [2, 3] hP rfl (by decide)
        have hD := zsD [(cH k ah aw adr aim ard asc ath awl alo atr sh), (cW k aw sw), (lsO (awl 0) e mc L.length :: lsA k e L.length (uWa L) :: uWs k L), (cW k a ou)] 4 [0, 1] [2, 3] hD rfl (by decide)
        have hP : va_P D zCl (((cH k ah aw adr aim ard asc ath awl alo atr sh) ++ (cW k aw sw)) ++ (lsO (awl 0) e mc L.length :: lsA k e L.length (uWa L) :: (uWs k L ++ (cW k a ou)))) _ := hP
        have hD : va_D A (((cH k ah aw adr aim ard asc ath awl alo atr sh) ++ (cW k aw sw)) ++ (lsO (awl 0) e mc L.length :: lsA k e L.length (uWa L) :: (uWs k L ++ (cW k a ou)))) := hD
        refine cWVP ((cH k ah aw adr aim ard asc ath awl alo atr sh) ++ (cW k aw sw)) (lsO (awl 0) e mc L.length :: lsA k e L.length (uWa L) :: (uWs k L ++ (cW k a ou))) (As := [.ref (a 0)]) (ci := 15) ⟨hx, hb, hml, hown, hts⟩ hOK hz hS hA hP hD (mtJ2_addg l D k Z hOK hLs (awl 0) e (a 0) mc L.length (uWa L) (uWs k L ++ (cW k a ou)) (uWa_len L) (by omega) (by omega) (fun y hy => (uWel k L y hy).mono (fun q hq => List.mem_append_left _ hq)) ((uWel1 k a ou).mono (fun q hq => List.mem_append_right _ hq))) (kJ2_add hts q1439 rfl rfl ⟨Nat.le_of_ble_eq_true rfl, Nat.le_of_ble_eq_true rfl⟩) 0 rfl rfl rfl hl.1 rfl (lv_room (Nat.le_of_ble_eq_true rfl)) ⟨(Nat.le_of_ble_eq_true rfl), (by rw [hc10]; decide)⟩ dX1_remembers_46 (fun r_ w_ H locs hq hP hD hS => ?_)
        obtain ⟨e', rfl, rfl⟩ := hq
        have hP := zjP [(cH k ah aw adr aim ard asc ath awl alo atr sh), (cW k aw sw)] [(lsO (awl 0) e' (mc + nI 1) (L.length + 1) :: lsA k e' (lsCap L.length) (uWa L ++ [a 0]) :: (uWs k L ++ (cW k a ou)))] hP
        have hD := zjD [(cH k ah aw adr aim ard asc ath awl alo atr sh), (cW k aw sw)] [(lsO (awl 0) e' (mc + nI 1) (L.length + 1) :: lsA k e' (lsCap L.length) (uWa L ++ [a 0]) :: (uWs k L ++ (cW k a ou)))] hD
        have hP : va_P D zCl ((cH k ah aw adr aim ard asc ath awl alo atr sh) ++ ((cW k aw sw) ++ (lsO (awl 0) e' (mc + nI 1) (L.length + 1) :: lsA k e' (lsCap L.length) (uWa L ++ [a 0]) :: (uWs k L ++ (cW k a ou))))) _ := hP
        have hD : va_D A ((cH k ah aw adr aim ard asc ath awl alo atr sh) ++ ((cW k aw sw) ++ (lsO (awl 0) e' (mc + nI 1) (L.length + 1) :: lsA k e' (lsCap L.length) (uWa L ++ [a 0]) :: (uWs k L ++ (cW k a ou))))) := hD
        refine lv_pop hx hb dX1_remembers_49 rfl ?_
        refine W.widen (k := 10) (n := 326) (Nat.le_of_ble_eq_true rfl) (by rw [hc10]; decide) ?_
        exact retW_v hx hb hr hlocks hP hD hS ⟨(lsO (awl 0) e' (mc + nI 1) (L.length + 1) :: lsA k e' (lsCap L.length) (uWa L ++ [a 0]) :: (uWs k L ++ (cW k a ou))), wd0, ou, hou, ⟨mc + nI 1, Or.inr ⟨e', (lsCap L.length), L ++ [(a, ou)], (by rw [List.map_append, puW_n _ (by rw [List.length_map]; exact hn12)]; rfl), (Or.inr (by rw [hc10]; rfl)), (by rw [List.length_append, List.length_singleton]; omega), (by rw [List.length_append, List.length_singleton]; omega), (by rw [uWs_snoc, uWa_snoc, List.length_append]; rfl)⟩⟩, rfl, rfl⟩ dX1_remembers_50
    · have hn12 : L.length = 12 := nI_i12 (by omega) c1
      obtain ⟨⟨a, u0⟩, L, rfl⟩ : ∃ z L', L = z :: L' := by
        cases L with
        | nil => exact absurd hn12 (by decide)
        | cons z t => exact ⟨z, t, rfl⟩
      have h11 : L.length = 11 := by simpa using hn12
      have e12 : ((a, u0) :: L).length = 11 + 1 := hn12
      rw [e12] at hP hD
      have hP : va_P D zCl ((cH k ah aw adr aim ard asc ath awl alo atr sh) ++ ((cW k aw sw) ++ (lsO (awl 0) e mc (11 + 1) :: lsA k e cap (uWa ((a, u0) :: L)) :: uWs k ((a, u0) :: L)))) _ := hP
      have hD : va_D A ((cH k ah aw adr aim ard asc ath awl alo atr sh) ++ ((cW k aw sw) ++ (lsO (awl 0) e mc (11 + 1) :: lsA k e cap (uWa ((a, u0) :: L)) :: uWs k ((a, u0) :: L)))) := hD
      refine lv_aload_n hx hb dX1_remembers_12 rfl (lv_at hl 0 rfl) ?_
      refine va_get (ci := 1) (v := .ref (awl 0)) (C := RX1) (T := TX1) (N := 10) hx hb hts in_X1 hown hK hP 0 rfl rfl 7 (by decide) (hts _ q378) (fun _ h9 => h9) rfl dX1_remembers_13 ?_
      refine lv_iconst (v := (0 : Int32)) hx hb dX1_remembers_16 (by decide) ?_
      have hP := zsP [(cH k ah aw adr aim ard asc ath awl alo atr sh), (cW k aw sw), (lsO (awl 0) e mc (11 + 1) :: lsA k e cap (uWa ((a, u0) :: L)) :: uWs k ((a, u0) :: L))] 3 [0, 1] [2] hP rfl (by decide)
      have hD := zsD [(cH k ah aw adr aim ard asc ath awl alo atr sh), (cW k aw sw), (lsO (awl 0) e mc (11 + 1) :: lsA k e cap (uWa ((a, u0) :: L)) :: uWs k ((a, u0) :: L))] 3 [0, 1] [2] hD rfl (by decide)
      have hP : va_P D zCl (((cH k ah aw adr aim ard asc ath awl alo atr sh) ++ (cW k aw sw)) ++ (lsO (awl 0) e mc (11 + 1) :: lsA k e cap (uWa ((a, u0) :: L)) :: uWs k ((a, u0) :: L))) _ := hP
      have hD : va_D A (((cH k ah aw adr aim ard asc ath awl alo atr sh) ++ (cW k aw sw)) ++ (lsO (awl 0) e mc (11 + 1) :: lsA k e cap (uWa ((a, u0) :: L)) :: uWs k ((a, u0) :: L))) := hD
      refine cWVP ((cH k ah aw adr aim ard asc ath awl alo atr sh) ++ (cW k aw sw)) (lsO (awl 0) e mc (11 + 1) :: lsA k e cap (uWa ((a, u0) :: L)) :: uWs k ((a, u0) :: L)) (As := [.int (nI 0)]) (ci := 15) ⟨hx, hb, hml, hown, hts⟩ hOK hz hS hA hP hD (mtJ2_remove l D k Z hOK (awl 0) e mc 11 cap 0 (uWa ((a, u0) :: L)) (uWs k ((a, u0) :: L)) (by rw [uWa_len]; exact e12) (by rw [e12] at hcl; exact hcl) (by omega) (by omega) (uWel k ((a, u0) :: L)) (a 0) rfl) (kJ2_remove hts q715 rfl rfl ⟨Nat.le_of_ble_eq_true rfl, Nat.le_of_ble_eq_true rfl⟩) 0 rfl rfl rfl hl.1 rfl (lv_room (Nat.le_of_ble_eq_true rfl)) ⟨(Nat.le_of_ble_eq_true rfl), (Nat.le_of_ble_eq_true rfl)⟩ dX1_remembers_17 (fun r_ w_ H locs hq hP hD hS => ?_)
      obtain ⟨rfl, rfl⟩ := hq
      have hP := zjP [(cH k ah aw adr aim ard asc ath awl alo atr sh), (cW k aw sw)] [(lsO (awl 0) e (mc + nI 1) 11 :: lsA k e cap ((uWa ((a, u0) :: L)).eraseIdx 0) :: uWs k ((a, u0) :: L))] hP
      have hD := zjD [(cH k ah aw adr aim ard asc ath awl alo atr sh), (cW k aw sw)] [(lsO (awl 0) e (mc + nI 1) 11 :: lsA k e cap ((uWa ((a, u0) :: L)).eraseIdx 0) :: uWs k ((a, u0) :: L))] hD
      have hP : va_P D zCl ((cH k ah aw adr aim ard asc ath awl alo atr sh) ++ ((cW k aw sw) ++ (lsO (awl 0) e (mc + nI 1) 11 :: lsA k e cap ((uWa ((a, u0) :: L)).eraseIdx 0) :: uWs k ((a, u0) :: L)))) _ := hP
      have hD : va_D A ((cH k ah aw adr aim ard asc ath awl alo atr sh) ++ ((cW k aw sw) ++ (lsO (awl 0) e (mc + nI 1) 11 :: lsA k e cap ((uWa ((a, u0) :: L)).eraseIdx 0) :: uWs k ((a, u0) :: L)))) := hD
      refine va_castS (cC := D.1 2) hx hb hown (hts _ q156) (hK.1 2 _ rfl).2 (va_recv (q := zCl[2]) hK hP rfl (show _ = some (a 0, _) from rfl : (((cH k ah aw adr aim ard asc ath awl alo atr sh) ++ ((cW k aw sw) ++ (lsO (awl 0) e (mc + nI 1) 11 :: lsA k e cap ((uWa ((a, u0) :: L)).eraseIdx 0) :: uWs k ((a, u0) :: L)))))[12]? = some (a 0, .inr (2, _)))) dX1_remembers_20 ?_
      refine lv_goto (tgt := 33) hx hb dX1_remembers_23 (by decide) ?_
      refine lv_astore_n (lv' := [(1, .ref (a 0)), (0, .ref (ah 0))]) hx hb dX1_remembers_33 rfl hl (by decide) rfl (fun ls hl => ?_)
      have hP : va_P D zCl ((cH k ah aw adr aim ard asc ath awl alo atr sh) ++ ((cW k aw sw) ++ ([lsO (awl 0) e (mc + nI 1) 11, lsA k e cap (uWa L)] ++ ((cW k a u0) ++ (uWs k L))))) _ := hP
      have hD : va_D A ((cH k ah aw adr aim ard asc ath awl alo atr sh) ++ ((cW k aw sw) ++ ([lsO (awl 0) e (mc + nI 1) 11, lsA k e cap (uWa L)] ++ ((cW k a u0) ++ (uWs k L))))) := hD
      have hP := zbP [(cH k ah aw adr aim ard asc ath awl alo atr sh), (cW k aw sw), [lsO (awl 0) e (mc + nI 1) 11, lsA k e cap (uWa L)], (cW k a u0), (uWs k L)] 5 [0, 1, 2, 4, 3] hP rfl (by decide)
      have hD := zbD [(cH k ah aw adr aim ard asc ath awl alo atr sh), (cW k aw sw), [lsO (awl 0) e (mc + nI 1) 11, lsA k e cap (uWa L)], (cW k a u0), (uWs k L)] 5 [0, 1, 2, 4, 3] hD rfl (by decide)
      have hP : va_P D zCl ((cH k ah aw adr aim ard asc ath awl alo atr sh) ++ ((cW k aw sw) ++ ([lsO (awl 0) e (mc + nI 1) 11, lsA k e cap (uWa L)] ++ ((uWs k L) ++ (cW k a u0))))) _ := hP
      have hD : va_D A ((cH k ah aw adr aim ard asc ath awl alo atr sh) ++ ((cW k aw sw) ++ ([lsO (awl 0) e (mc + nI 1) 11, lsA k e cap (uWa L)] ++ ((uWs k L) ++ (cW k a u0))))) := hD
      have hP : va_P D zCl ((cH k ah aw adr aim ard asc ath awl alo atr sh) ++ ((cW k aw sw) ++ ((lsO (awl 0) e (mc + nI 1) 11 :: lsA k e cap (uWa L) :: uWs k L) ++ (cW k a u0)))) _ := hP
      have hD : va_D A ((cH k ah aw adr aim ard asc ath awl alo atr sh) ++ ((cW k aw sw) ++ ((lsO (awl 0) e (mc + nI 1) 11 :: lsA k e cap (uWa L) :: uWs k L) ++ (cW k a u0)))) := hD
      refine lv_aload_n hx hb dX1_remembers_34 rfl (lv_at hl 1 rfl) ?_
      refine va_get (ci := 1) (v := .ref (awl 0)) (C := RX1) (T := TX1) (N := 10) hx hb hts in_X1 hown hK hP 0 rfl rfl 7 (by decide) (hts _ q378) (fun _ h9 => h9) rfl dX1_remembers_35 ?_
      refine lv_aload_n hx hb dX1_remembers_38 rfl (lv_at hl 0 rfl) ?_
      refine lv_aload_n hx hb dX1_remembers_39 rfl (lv_at hl 1 rfl) ?_
      refine va_get (ci := 1) (v := .ref (aw 0)) (C := RX1) (T := TX1) (N := 10) hx hb hts in_X1 hown hK hP 0 rfl rfl 0 (by decide) (hts _ q370) (fun _ h9 => h9) rfl dX1_remembers_40 ?_
      obtain ⟨ou, hou⟩ := likens_all u0 sw
      have hP := zsP [(cH k ah aw adr aim ard asc ath awl alo atr sh), (cW k aw sw), (lsO (awl 0) e (mc + nI 1) 11 :: lsA k e cap (uWa L) :: uWs k L), (cW k a u0)] 4 [0, 2] [3, 1] hP rfl (by decide)
      have hD := zsD [(cH k ah aw adr aim ard asc ath awl alo atr sh), (cW k aw sw), (lsO (awl 0) e (mc + nI 1) 11 :: lsA k e cap (uWa L) :: uWs k L), (cW k a u0)] 4 [0, 2] [3, 1] hD rfl (by decide)
      have hP : va_P D zCl (((cH k ah aw adr aim ard asc ath awl alo atr sh) ++ (lsO (awl 0) e (mc + nI 1) 11 :: lsA k e cap (uWa L) :: uWs k L)) ++ ((cW k a u0) ++ (cW k aw sw))) _ := hP
      have hD : va_D A (((cH k ah aw adr aim ard asc ath awl alo atr sh) ++ (lsO (awl 0) e (mc + nI 1) 11 :: lsA k e cap (uWa L) :: uWs k L)) ++ ((cW k a u0) ++ (cW k aw sw))) := hD
      refine cWVP ((cH k ah aw adr aim ard asc ath awl alo atr sh) ++ (lsO (awl 0) e (mc + nI 1) 11 :: lsA k e cap (uWa L) :: uWs k L)) ((cW k a u0) ++ (cW k aw sw)) (As := [.ref (aw 0)]) (ci := 2) ⟨hx, hb, hml, hown, hts⟩ hOK hz hS hA hP hD (mtX2_likens l D k a aw Z hOK _ _ _ hou) (kX2_likens hts q434 rfl rfl ⟨Nat.le_of_ble_eq_true rfl, Nat.le_of_ble_eq_true rfl⟩) 0 rfl rfl rfl hl.1 rfl (lv_room (Nat.le_of_ble_eq_true rfl)) ⟨(Nat.le_of_ble_eq_true rfl), (Nat.le_of_ble_eq_true rfl)⟩ dX1_remembers_43 (fun r_ w_ H locs hq hP hD hS => ?_)
      obtain ⟨rfl, rfl⟩ := hq
      have hP := zjP [(cH k ah aw adr aim ard asc ath awl alo atr sh), (lsO (awl 0) e (mc + nI 1) 11 :: lsA k e cap (uWa L) :: uWs k L)] [(cW k a ou), (cW k aw sw)] hP
      have hD := zjD [(cH k ah aw adr aim ard asc ath awl alo atr sh), (lsO (awl 0) e (mc + nI 1) 11 :: lsA k e cap (uWa L) :: uWs k L)] [(cW k a ou), (cW k aw sw)] hD
      have hP : va_P D zCl ((cH k ah aw adr aim ard asc ath awl alo atr sh) ++ ((lsO (awl 0) e (mc + nI 1) 11 :: lsA k e cap (uWa L) :: uWs k L) ++ ((cW k a ou) ++ (cW k aw sw)))) _ := hP
      have hD : va_D A ((cH k ah aw adr aim ard asc ath awl alo atr sh) ++ ((lsO (awl 0) e (mc + nI 1) 11 :: lsA k e cap (uWa L) :: uWs k L) ++ ((cW k a ou) ++ (cW k aw sw)))) := hD
      have hP := zbP [(cH k ah aw adr aim ard asc ath awl alo atr sh), (lsO (awl 0) e (mc + nI 1) 11 :: lsA k e cap (uWa L) :: uWs k L), (cW k a ou), (cW k aw sw)] 4 [0, 3, 1, 2] hP rfl (by decide)
      have hD := zbD [(cH k ah aw adr aim ard asc ath awl alo atr sh), (lsO (awl 0) e (mc + nI 1) 11 :: lsA k e cap (uWa L) :: uWs k L), (cW k a ou), (cW k aw sw)] 4 [0, 3, 1, 2] hD rfl (by decide)
      have hP : va_P D zCl ((cH k ah aw adr aim ard asc ath awl alo atr sh) ++ ((cW k aw sw) ++ ((lsO (awl 0) e (mc + nI 1) 11 :: lsA k e cap (uWa L) :: uWs k L) ++ (cW k a ou)))) _ := hP
      have hD : va_D A ((cH k ah aw adr aim ard asc ath awl alo atr sh) ++ ((cW k aw sw) ++ ((lsO (awl 0) e (mc + nI 1) 11 :: lsA k e cap (uWa L) :: uWs k L) ++ (cW k a ou)))) := hD
      have hP := zsP [(cH k ah aw adr aim ard asc ath awl alo atr sh), (cW k aw sw), (lsO (awl 0) e (mc + nI 1) 11 :: lsA k e cap (uWa L) :: uWs k L), (cW k a ou)] 4 [0, 1] [2, 3] hP rfl (by decide)
      have hD := zsD [(cH k ah aw adr aim ard asc ath awl alo atr sh), (cW k aw sw), (lsO (awl 0) e (mc + nI 1) 11 :: lsA k e cap (uWa L) :: uWs k L), (cW k a ou)] 4 [0, 1] [2, 3] hD rfl (by decide)
      have hP : va_P D zCl (((cH k ah aw adr aim ard asc ath awl alo atr sh) ++ (cW k aw sw)) ++ (lsO (awl 0) e (mc + nI 1) 11 :: lsA k e cap (uWa L) :: (uWs k L ++ (cW k a ou)))) _ := hP
      have hD : va_D A (((cH k ah aw adr aim ard asc ath awl alo atr sh) ++ (cW k aw sw)) ++ (lsO (awl 0) e (mc + nI 1) 11 :: lsA k e cap (uWa L) :: (uWs k L ++ (cW k a ou)))) := hD
      refine cWVP ((cH k ah aw adr aim ard asc ath awl alo atr sh) ++ (cW k aw sw)) (lsO (awl 0) e (mc + nI 1) 11 :: lsA k e cap (uWa L) :: (uWs k L ++ (cW k a ou))) (As := [.ref (a 0)]) (ci := 15) ⟨hx, hb, hml, hown, hts⟩ hOK hz hS hA hP hD (mtJ2_addn l D k Z hOK hLs (awl 0) e (a 0) (mc + nI 1) 11 cap (uWa L) (uWs k L ++ (cW k a ou)) (by rw [uWa_len]; exact h11) (by omega) (by omega) ((uWel1 k a ou).mono (fun q hq => List.mem_append_right _ hq))) (kJ2_add hts q1439 rfl rfl ⟨Nat.le_of_ble_eq_true rfl, Nat.le_of_ble_eq_true rfl⟩) 0 rfl rfl rfl hl.1 rfl (lv_room (Nat.le_of_ble_eq_true rfl)) ⟨(Nat.le_of_ble_eq_true rfl), (Nat.le_of_ble_eq_true rfl)⟩ dX1_remembers_46 (fun r_ w_ H locs hq hP hD hS => ?_)
      obtain ⟨rfl, rfl⟩ := hq
      have hP := zjP [(cH k ah aw adr aim ard asc ath awl alo atr sh), (cW k aw sw)] [(lsO (awl 0) e (mc + nI 1 + nI 1) (11 + 1) :: lsA k e cap (uWa L ++ [a 0]) :: (uWs k L ++ (cW k a ou)))] hP
      have hD := zjD [(cH k ah aw adr aim ard asc ath awl alo atr sh), (cW k aw sw)] [(lsO (awl 0) e (mc + nI 1 + nI 1) (11 + 1) :: lsA k e cap (uWa L ++ [a 0]) :: (uWs k L ++ (cW k a ou)))] hD
      have hP : va_P D zCl ((cH k ah aw adr aim ard asc ath awl alo atr sh) ++ ((cW k aw sw) ++ (lsO (awl 0) e (mc + nI 1 + nI 1) (11 + 1) :: lsA k e cap (uWa L ++ [a 0]) :: (uWs k L ++ (cW k a ou))))) _ := hP
      have hD : va_D A ((cH k ah aw adr aim ard asc ath awl alo atr sh) ++ ((cW k aw sw) ++ (lsO (awl 0) e (mc + nI 1 + nI 1) (11 + 1) :: lsA k e cap (uWa L ++ [a 0]) :: (uWs k L ++ (cW k a ou))))) := hD
      refine lv_pop hx hb dX1_remembers_49 rfl ?_
      refine W.widen (k := 10) (n := 326) (Nat.le_of_ble_eq_true rfl) (Nat.le_of_ble_eq_true rfl) ?_
      exact retW_v hx hb hr hlocks hP hD hS ⟨(lsO (awl 0) e (mc + nI 1 + nI 1) (11 + 1) :: lsA k e cap (uWa L ++ [a 0]) :: (uWs k L ++ (cW k a ou))), u0, ou, hou, ⟨mc + nI 1 + nI 1, Or.inr ⟨e, cap, L ++ [(a, ou)], (by rw [List.map_append, puW_t _ (by rw [List.length_map]; exact hn12)]; rfl), hcap, (by rw [List.length_append, List.length_singleton]; omega), (by rw [List.length_append, List.length_singleton]; omega), (by rw [uWs_snoc, uWa_snoc, List.length_append, h11]; rfl)⟩⟩, rfl, rfl⟩ dX1_remembers_50
def rX1_undo : Room := { frames := 4, cells := 0, slots := 0, locals := 200 }
theorem kX1_undo {R : Room} {s : State} {args : Array Value} {own : String} {idx mc ms : Nat} {rm : Room} (hts : ∀ w ∈ lw_all, w.before args s = true) (hl : Cond.methodLink own idx yX1_undo ∈ lw_all) (hrc : rm.cells = mc) (hrs : rm.slots = ms) (hR : rm.frames + 1 ≤ R.frames ∧ 8 + (1 + 11) + rm.locals ≤ R.locals) : CallW R s args own RX1 idx yX1_undo cX1_undo 1 (some .boolean) (ws_ yX1_undo cX1_undo 1 (some .boolean)) rm mc ms 0 :=
  cwV 0 hts (lw_V hl q707 q708 q107 q709) rfl hrc hrs (by decide +kernel) hR
set_option maxRecDepth 100000 in
theorem mtX1_undo0 (l : Launch) (D : va_G) (k : Nat → ClassId) (ah aw adr aim ard asc ath awl alo atr : Nat → Nat) (Z : zZ) (hOK : zOK D zCl (zTys k) Z) {e0 : Nat} (sh : Kp) (sw : Wd) (w : va_W) (hw : wlP k e0 (awl 0) [] w) : CtW l yX1_undo cX1_undo 1 (some .boolean) rX1_undo Z D zCl (((cH k ah aw adr aim ard asc ath awl alo atr sh) ++ (cW k aw sw)) ++ w) [.ref (ah 0)] (fun r' w' => r' = some (.int (bz false)) ∧ w' = (((cH k ah aw adr aim ard asc ath awl alo atr sh) ++ (cW k aw sw)) ++ w)) 0 0 := by
  refine CtW.of (by decide) (Nat.le_of_ble_eq_true rfl) ?_
  intro p e9 s m args below meth c A hE hA hP hD hS hz ls hl
  obtain ⟨hx, hb, hr, hml, hown, hts, hlocks, hname⟩ := hE
  have hown : s.vm.findClass RX1 = some m.cls := hown
  have hK := hOK.1 _ _ _ hz
  have hN := hOK.2.1 _ _ _ hz
  have hl : lv_has ls 1 [(0, .ref (ah 0))] := hl
  obtain ⟨mc, ⟨-, rfl⟩ | ⟨e, cap, L, hL, hcap, hcl, hL12, rfl⟩⟩ := hw
  · have hP : va_P D zCl ((cH k ah aw adr aim ard asc ath awl alo atr sh) ++ ((cW k aw sw) ++ [lsO (awl 0) e0 mc 0])) _ := hP
    have hD : va_D A ((cH k ah aw adr aim ard asc ath awl alo atr sh) ++ ((cW k aw sw) ++ [lsO (awl 0) e0 mc 0])) := hD
    refine lv_aload_n hx hb dX1_undo_0 rfl (lv_at hl 0 rfl) ?_
    refine va_get (ci := 1) (v := .ref (awl 0)) (C := RX1) (T := TX1) (N := 10) hx hb hts in_X1 hown hK hP 0 rfl rfl 7 (by decide) (hts _ q378) (fun _ h9 => h9) rfl dX1_undo_1 ?_
    refine cRV (As := []) (ci := 15) ⟨hx, hb, hml, hown, hts⟩ hOK hz hS (hP.sub (ws' := [lsO (awl 0) e0 mc 0]) [10] rfl) (mtJ2_isEmpty l D k Z hOK (awl 0) e0 mc 0 (by decide)) (kJ2_isEmpty hts q710 rfl rfl ⟨Nat.le_of_ble_eq_true rfl, Nat.le_of_ble_eq_true rfl⟩) 0 rfl rfl rfl hl.1 rfl (lv_room (Nat.le_of_ble_eq_true rfl)) ⟨(Nat.le_of_ble_eq_true rfl), (Nat.le_of_ble_eq_true rfl)⟩ dX1_undo_4 ?_
    refine lv_if_eq (tgt := 12) hx hb dX1_undo_7 (by decide) (fun c1 => absurd c1 (by decide)) (fun _ => ?_)
    refine lv_iconst (v := bz false) hx hb dX1_undo_10 (by decide) ?_
    exact retW_z hx hb hr hlocks hP hD hS ⟨rfl, rfl⟩ dX1_undo_11
  · obtain rfl : L = [] := List.map_eq_nil_iff.mp hL
    have hP : va_P D zCl ((cH k ah aw adr aim ard asc ath awl alo atr sh) ++ ((cW k aw sw) ++ (lsO (awl 0) e mc 0 :: lsA k e cap (uWa []) :: uWs k []))) _ := hP
    have hD : va_D A ((cH k ah aw adr aim ard asc ath awl alo atr sh) ++ ((cW k aw sw) ++ (lsO (awl 0) e mc 0 :: lsA k e cap (uWa []) :: uWs k []))) := hD
    refine lv_aload_n hx hb dX1_undo_0 rfl (lv_at hl 0 rfl) ?_
    refine va_get (ci := 1) (v := .ref (awl 0)) (C := RX1) (T := TX1) (N := 10) hx hb hts in_X1 hown hK hP 0 rfl rfl 7 (by decide) (hts _ q378) (fun _ h9 => h9) rfl dX1_undo_1 ?_
    refine cRV (As := []) (ci := 15) ⟨hx, hb, hml, hown, hts⟩ hOK hz hS (hP.sub (ws' := [lsO (awl 0) e mc 0]) [10] rfl) (mtJ2_isEmpty l D k Z hOK (awl 0) e mc 0 (by decide)) (kJ2_isEmpty hts q710 rfl rfl ⟨Nat.le_of_ble_eq_true rfl, Nat.le_of_ble_eq_true rfl⟩) 0 rfl rfl rfl hl.1 rfl (lv_room (Nat.le_of_ble_eq_true rfl)) ⟨(Nat.le_of_ble_eq_true rfl), (Nat.le_of_ble_eq_true rfl)⟩ dX1_undo_4 ?_
    refine lv_if_eq (tgt := 12) hx hb dX1_undo_7 (by decide) (fun c1 => absurd c1 (by decide)) (fun _ => ?_)
    refine lv_iconst (v := bz false) hx hb dX1_undo_10 (by decide) ?_
    exact retW_z hx hb hr hlocks hP hD hS ⟨rfl, rfl⟩ dX1_undo_11
theorem wl_snoc {L0 : List uW} {us : List Wd} {u : Wd} (h : L0.map (·.2) = us ++ [u]) : ∃ (a : Nat → Nat) (L : List uW), L0 = L ++ [(a, u)] ∧ L.map (·.2) = us := by
  rcases List.eq_nil_or_concat L0 with rfl | ⟨L, z, rfl⟩
  · exact absurd h (by simp)
  · rw [List.concat_eq_append, List.map_append] at h
    have h2 := List.append_inj' h rfl
    obtain ⟨a, u'⟩ := z
    have h3 : u' = u := by simpa using h2.2
    subst h3
    exact ⟨a, L, List.concat_eq_append, h2.1⟩
theorem zbAs {D : va_G} {cl : List vw_C} {a b c d : va_W} {H : Heap} (h : va_P D cl (a ++ (b ++ (c ++ d))) H) : va_P D cl ((a ++ (b ++ c)) ++ d) H := by simpa only [List.append_assoc] using h
theorem zbAsD {A : Nat → Prop} {a b c d : va_W} (h : va_D A (a ++ (b ++ (c ++ d)))) : va_D A ((a ++ (b ++ c)) ++ d) := by simpa only [List.append_assoc] using h
set_option maxRecDepth 100000 in
theorem mtX1_undo1 (l : Launch) (D : va_G) (k : Nat → ClassId) (ah aw adr aim ard asc ath awl alo atr : Nat → Nat) (Z : zZ) (hOK : zOK D zCl (zTys k) Z) {e0 : Nat} (sh : Kp) (sw : Wd) (us : List Wd) (u : Wd) (w : va_W) (hw : wlP k e0 (awl 0) (us ++ [u]) w) : CtW l yX1_undo cX1_undo 1 (some .boolean) rX1_undo Z D zCl (((cH k ah aw adr aim ard asc ath awl alo atr sh) ++ (cW k aw sw)) ++ w) [.ref (ah 0)] (fun r' w' => ∃ (T : va_W) (ow : Wd), fX2_likens sw u = some ow ∧ wlP k e0 (awl 0) us T ∧ r' = some (.int (bz true)) ∧ w' = (((cH k ah aw adr aim ard asc ath awl alo atr sh) ++ (cW k aw ow)) ++ T)) 0 0 := by
  refine CtW.of (by decide) (Nat.le_of_ble_eq_true rfl) ?_
  intro p e9 s m args below meth c A hE hA hP hD hS hz ls hl
  obtain ⟨hx, hb, hr, hml, hown, hts, hlocks, hname⟩ := hE
  have hown : s.vm.findClass RX1 = some m.cls := hown
  have hK := hOK.1 _ _ _ hz
  have hN := hOK.2.1 _ _ _ hz
  have hl : lv_has ls 1 [(0, .ref (ah 0))] := hl
  obtain ⟨mc, ⟨h0, -⟩ | ⟨e, cap, L0, hL, hcap, hcl, hL12, rfl⟩⟩ := hw
  · exact absurd h0 (by simp)
  obtain ⟨a, L, rfl, hus⟩ : ∃ (a : Nat → Nat) (L : List uW), L0 = L ++ [(a, u)] ∧ L.map (·.2) = us := wl_snoc hL
  have hlen : (L ++ [(a, u)]).length = L.length + 1 := by rw [List.length_append]; rfl
  rw [hlen] at hP hD hcl hL12
  have hP : va_P D zCl ((cH k ah aw adr aim ard asc ath awl alo atr sh) ++ ((cW k aw sw) ++ (lsO (awl 0) e mc (L.length + 1) :: lsA k e cap (uWa (L ++ [(a, u)])) :: uWs k (L ++ [(a, u)])))) _ := hP
  have hD : va_D A ((cH k ah aw adr aim ard asc ath awl alo atr sh) ++ ((cW k aw sw) ++ (lsO (awl 0) e mc (L.length + 1) :: lsA k e cap (uWa (L ++ [(a, u)])) :: uWs k (L ++ [(a, u)])))) := hD
  refine lv_aload_n hx hb dX1_undo_0 rfl (lv_at hl 0 rfl) ?_
  refine va_get (ci := 1) (v := .ref (awl 0)) (C := RX1) (T := TX1) (N := 10) hx hb hts in_X1 hown hK hP 0 rfl rfl 7 (by decide) (hts _ q378) (fun _ h9 => h9) rfl dX1_undo_1 ?_
  refine cRV (As := []) (ci := 15) ⟨hx, hb, hml, hown, hts⟩ hOK hz hS (hP.sub (ws' := [lsO (awl 0) e mc (L.length + 1)]) [10] rfl) (mtJ2_isEmpty l D k Z hOK (awl 0) e mc (L.length + 1) (by omega)) (kJ2_isEmpty hts q710 rfl rfl ⟨Nat.le_of_ble_eq_true rfl, Nat.le_of_ble_eq_true rfl⟩) 0 rfl rfl rfl hl.1 rfl (lv_room (Nat.le_of_ble_eq_true rfl)) ⟨(Nat.le_of_ble_eq_true rfl), (Nat.le_of_ble_eq_true rfl)⟩ dX1_undo_4 ?_
  rw [show (bz (decide (L.length + 1 = 0))) = 0 from by rw [decide_eq_false (by omega)]; rfl]
  refine lv_if_eq (tgt := 12) hx hb dX1_undo_7 (by decide) (fun _ => ?_) (fun c1 => absurd rfl c1)
  refine lv_aload_n hx hb dX1_undo_12 rfl (lv_at hl 0 rfl) ?_
  refine va_get (ci := 1) (v := .ref (aw 0)) (C := RX1) (T := TX1) (N := 10) hx hb hts in_X1 hown hK hP 0 rfl rfl 0 (by decide) (hts _ q370) (fun _ h9 => h9) rfl dX1_undo_13 ?_
  refine lv_aload_n hx hb dX1_undo_16 rfl (lv_at hl 0 rfl) ?_
  refine va_get (ci := 1) (v := .ref (awl 0)) (C := RX1) (T := TX1) (N := 10) hx hb hts in_X1 hown hK hP 0 rfl rfl 7 (by decide) (hts _ q378) (fun _ h9 => h9) rfl dX1_undo_17 ?_
  refine lv_aload_n hx hb dX1_undo_20 rfl (lv_at hl 0 rfl) ?_
  refine va_get (ci := 1) (v := .ref (awl 0)) (C := RX1) (T := TX1) (N := 10) hx hb hts in_X1 hown hK hP 0 rfl rfl 7 (by decide) (hts _ q378) (fun _ h9 => h9) rfl dX1_undo_21 ?_
  refine cRV (As := []) (ci := 15) ⟨hx, hb, hml, hown, hts⟩ hOK hz hS (hP.sub (ws' := [lsO (awl 0) e mc (L.length + 1)]) [10] rfl) (mtJ2_size l D k Z hOK (awl 0) e mc (L.length + 1)) (kJ2_size hts q714 rfl rfl ⟨Nat.le_of_ble_eq_true rfl, Nat.le_of_ble_eq_true rfl⟩) 0 rfl rfl rfl hl.1 rfl (lv_room (Nat.le_of_ble_eq_true rfl)) ⟨(Nat.le_of_ble_eq_true rfl), (Nat.le_of_ble_eq_true rfl)⟩ dX1_undo_24 ?_
  refine lv_iconst (v := nI 1) hx hb dX1_undo_27 (by decide) ?_
  refine lv_isub hx hb dX1_undo_28 ?_
  refine W.eq (g2 := F0 m 29 ls [.int (nI L.length), .ref (awl 0), .ref (aw 0)]) (by show F0 m 29 ls [.int (nI (L.length + 1) - 1), .ref (awl 0), .ref (aw 0)] = _; rw [nI_pred]) ?_
  have ex9 : (uWa (L ++ [(a, u)]))[L.length]? = some (a 0) := by rw [uWa_snoc, List.getElem?_append_right (Nat.le_of_eq (uWa_len L)), uWa_len, Nat.sub_self]; rfl
  have hP := zsP [(cH k ah aw adr aim ard asc ath awl alo atr sh), (cW k aw sw), (lsO (awl 0) e mc (L.length + 1) :: lsA k e cap (uWa (L ++ [(a, u)])) :: uWs k (L ++ [(a, u)]))] 3 [0, 1] [2] hP rfl (by decide)
  have hD := zsD [(cH k ah aw adr aim ard asc ath awl alo atr sh), (cW k aw sw), (lsO (awl 0) e mc (L.length + 1) :: lsA k e cap (uWa (L ++ [(a, u)])) :: uWs k (L ++ [(a, u)]))] 3 [0, 1] [2] hD rfl (by decide)
  have hP : va_P D zCl (((cH k ah aw adr aim ard asc ath awl alo atr sh) ++ (cW k aw sw)) ++ (lsO (awl 0) e mc (L.length + 1) :: lsA k e cap (uWa (L ++ [(a, u)])) :: uWs k (L ++ [(a, u)]))) _ := hP
  have hD : va_D A (((cH k ah aw adr aim ard asc ath awl alo atr sh) ++ (cW k aw sw)) ++ (lsO (awl 0) e mc (L.length + 1) :: lsA k e cap (uWa (L ++ [(a, u)])) :: uWs k (L ++ [(a, u)]))) := hD
  refine cWVP ((cH k ah aw adr aim ard asc ath awl alo atr sh) ++ (cW k aw sw)) (lsO (awl 0) e mc (L.length + 1) :: lsA k e cap (uWa (L ++ [(a, u)])) :: uWs k (L ++ [(a, u)])) (As := [.int (nI L.length)]) (ci := 15) ⟨hx, hb, hml, hown, hts⟩ hOK hz hS hA hP hD (mtJ2_remove l D k Z hOK (awl 0) e mc L.length cap L.length (uWa (L ++ [(a, u)])) (uWs k (L ++ [(a, u)])) (by rw [uWa_len]; exact hlen) hcl (by omega) (Nat.le_refl _) (uWel k (L ++ [(a, u)])) (a 0) ex9) (kJ2_remove hts q715 rfl rfl ⟨Nat.le_of_ble_eq_true rfl, Nat.le_of_ble_eq_true rfl⟩) 0 rfl rfl rfl hl.1 rfl (lv_room (Nat.le_of_ble_eq_true rfl)) ⟨(Nat.le_of_ble_eq_true rfl), (Nat.le_of_ble_eq_true rfl)⟩ dX1_undo_29 (fun r_ w_ H locs hq hP hD hS => ?_)
  obtain ⟨rfl, rfl⟩ := hq
  have hP := zjP [(cH k ah aw adr aim ard asc ath awl alo atr sh), (cW k aw sw)] [(lsO (awl 0) e (mc + nI 1) L.length :: lsA k e cap ((uWa (L ++ [(a, u)])).eraseIdx L.length) :: uWs k (L ++ [(a, u)]))] hP
  have hD := zjD [(cH k ah aw adr aim ard asc ath awl alo atr sh), (cW k aw sw)] [(lsO (awl 0) e (mc + nI 1) L.length :: lsA k e cap ((uWa (L ++ [(a, u)])).eraseIdx L.length) :: uWs k (L ++ [(a, u)]))] hD
  have hP : va_P D zCl ((cH k ah aw adr aim ard asc ath awl alo atr sh) ++ ((cW k aw sw) ++ (lsO (awl 0) e (mc + nI 1) L.length :: lsA k e cap ((uWa (L ++ [(a, u)])).eraseIdx L.length) :: uWs k (L ++ [(a, u)])))) _ := hP
  have hD : va_D A ((cH k ah aw adr aim ard asc ath awl alo atr sh) ++ ((cW k aw sw) ++ (lsO (awl 0) e (mc + nI 1) L.length :: lsA k e cap ((uWa (L ++ [(a, u)])).eraseIdx L.length) :: uWs k (L ++ [(a, u)])))) := hD
  have e8 : (uWa (L ++ [(a, u)])).eraseIdx L.length = uWa L := by rw [uWa_snoc, List.eraseIdx_append_of_length_le (by rw [uWa_len]; exact Nat.le_refl _), uWa_len, Nat.sub_self]; simp
  rw [e8, uWs_snoc] at hP hD
  have hP : va_P D zCl ((cH k ah aw adr aim ard asc ath awl alo atr sh) ++ ((cW k aw sw) ++ ((lsO (awl 0) e (mc + nI 1) L.length :: lsA k e cap (uWa L) :: uWs k L) ++ (cW k a u)))) _ := hP
  have hD : va_D A ((cH k ah aw adr aim ard asc ath awl alo atr sh) ++ ((cW k aw sw) ++ ((lsO (awl 0) e (mc + nI 1) L.length :: lsA k e cap (uWa L) :: uWs k L) ++ (cW k a u)))) := hD
  have hP := zbP [(cH k ah aw adr aim ard asc ath awl alo atr sh), (cW k aw sw), (lsO (awl 0) e (mc + nI 1) L.length :: lsA k e cap (uWa L) :: uWs k L), (cW k a u)] 4 [0, 1, 3, 2] hP rfl (by decide)
  have hD := zbD [(cH k ah aw adr aim ard asc ath awl alo atr sh), (cW k aw sw), (lsO (awl 0) e (mc + nI 1) L.length :: lsA k e cap (uWa L) :: uWs k L), (cW k a u)] 4 [0, 1, 3, 2] hD rfl (by decide)
  have hP : va_P D zCl ((cH k ah aw adr aim ard asc ath awl alo atr sh) ++ ((cW k aw sw) ++ ((cW k a u) ++ (lsO (awl 0) e (mc + nI 1) L.length :: lsA k e cap (uWa L) :: uWs k L)))) _ := hP
  have hD : va_D A ((cH k ah aw adr aim ard asc ath awl alo atr sh) ++ ((cW k aw sw) ++ ((cW k a u) ++ (lsO (awl 0) e (mc + nI 1) L.length :: lsA k e cap (uWa L) :: uWs k L)))) := hD
  refine va_castS (cC := D.1 2) hx hb hown (hts _ q156) (hK.1 2 _ rfl).2 (va_recv (q := zCl[2]) hK hP rfl (show (((cH k ah aw adr aim ard asc ath awl alo atr sh) ++ ((cW k aw sw) ++ ((cW k a u) ++ (lsO (awl 0) e (mc + nI 1) L.length :: lsA k e cap (uWa L) :: uWs k L)))))[10]? = some (a 0, .inr (2, _)) from rfl)) dX1_undo_32 ?_
  obtain ⟨ow, how⟩ := likens_all sw u
  have hP := zsP [(cH k ah aw adr aim ard asc ath awl alo atr sh), (cW k aw sw), (cW k a u), (lsO (awl 0) e (mc + nI 1) L.length :: lsA k e cap (uWa L) :: uWs k L)] 4 [0, 3] [1, 2] hP rfl (by decide)
  have hD := zsD [(cH k ah aw adr aim ard asc ath awl alo atr sh), (cW k aw sw), (cW k a u), (lsO (awl 0) e (mc + nI 1) L.length :: lsA k e cap (uWa L) :: uWs k L)] 4 [0, 3] [1, 2] hD rfl (by decide)
  have hP : va_P D zCl (((cH k ah aw adr aim ard asc ath awl alo atr sh) ++ (lsO (awl 0) e (mc + nI 1) L.length :: lsA k e cap (uWa L) :: uWs k L)) ++ ((cW k aw sw) ++ (cW k a u))) _ := hP
  have hD : va_D A (((cH k ah aw adr aim ard asc ath awl alo atr sh) ++ (lsO (awl 0) e (mc + nI 1) L.length :: lsA k e cap (uWa L) :: uWs k L)) ++ ((cW k aw sw) ++ (cW k a u))) := hD
  refine cWVP ((cH k ah aw adr aim ard asc ath awl alo atr sh) ++ (lsO (awl 0) e (mc + nI 1) L.length :: lsA k e cap (uWa L) :: uWs k L)) ((cW k aw sw) ++ (cW k a u)) (As := [.ref (a 0)]) (ci := 2) ⟨hx, hb, hml, hown, hts⟩ hOK hz hS hA hP hD (mtX2_likens l D k aw a Z hOK _ _ _ how) (kX2_likens hts q434 rfl rfl ⟨Nat.le_of_ble_eq_true rfl, Nat.le_of_ble_eq_true rfl⟩) 0 rfl rfl rfl hl.1 rfl (lv_room (Nat.le_of_ble_eq_true rfl)) ⟨(Nat.le_of_ble_eq_true rfl), (Nat.le_of_ble_eq_true rfl)⟩ dX1_undo_35 (fun r_ w_ H locs hq hP hD hS => ?_)
  obtain ⟨rfl, rfl⟩ := hq
  have hP := zjP [(cH k ah aw adr aim ard asc ath awl alo atr sh), (lsO (awl 0) e (mc + nI 1) L.length :: lsA k e cap (uWa L) :: uWs k L)] [(cW k aw ow), (cW k a u)] hP
  have hD := zjD [(cH k ah aw adr aim ard asc ath awl alo atr sh), (lsO (awl 0) e (mc + nI 1) L.length :: lsA k e cap (uWa L) :: uWs k L)] [(cW k aw ow), (cW k a u)] hD
  have hP : va_P D zCl ((cH k ah aw adr aim ard asc ath awl alo atr sh) ++ ((lsO (awl 0) e (mc + nI 1) L.length :: lsA k e cap (uWa L) :: uWs k L) ++ ((cW k aw ow) ++ (cW k a u)))) _ := hP
  have hD : va_D A ((cH k ah aw adr aim ard asc ath awl alo atr sh) ++ ((lsO (awl 0) e (mc + nI 1) L.length :: lsA k e cap (uWa L) :: uWs k L) ++ ((cW k aw ow) ++ (cW k a u)))) := hD
  refine lv_pop hx hb dX1_undo_38 rfl ?_
  refine lv_iconst (v := bz true) hx hb dX1_undo_39 (by decide) ?_
  have hP := zbP [(cH k ah aw adr aim ard asc ath awl alo atr sh), (lsO (awl 0) e (mc + nI 1) L.length :: lsA k e cap (uWa L) :: uWs k L), (cW k aw ow), (cW k a u)] 4 [0, 2, 1, 3] hP rfl (by decide)
  have hD := zbD [(cH k ah aw adr aim ard asc ath awl alo atr sh), (lsO (awl 0) e (mc + nI 1) L.length :: lsA k e cap (uWa L) :: uWs k L), (cW k aw ow), (cW k a u)] 4 [0, 2, 1, 3] hD rfl (by decide)
  have hP : va_P D zCl ((cH k ah aw adr aim ard asc ath awl alo atr sh) ++ ((cW k aw ow) ++ ((lsO (awl 0) e (mc + nI 1) L.length :: lsA k e cap (uWa L) :: uWs k L) ++ (cW k a u)))) _ := hP
  have hD : va_D A ((cH k ah aw adr aim ard asc ath awl alo atr sh) ++ ((cW k aw ow) ++ ((lsO (awl 0) e (mc + nI 1) L.length :: lsA k e cap (uWa L) :: uWs k L) ++ (cW k a u)))) := hD
  have hP := zdropP (x := ((cH k ah aw adr aim ard asc ath awl alo atr sh) ++ ((cW k aw ow) ++ (lsO (awl 0) e (mc + nI 1) L.length :: lsA k e cap (uWa L) :: uWs k L)))) (y := (cW k a u)) (zbAs hP)
  have hD := zdropD (x := ((cH k ah aw adr aim ard asc ath awl alo atr sh) ++ ((cW k aw ow) ++ (lsO (awl 0) e (mc + nI 1) L.length :: lsA k e cap (uWa L) :: uWs k L)))) (y := (cW k a u)) (zbAsD hD)
  have hP : va_P D zCl (((cH k ah aw adr aim ard asc ath awl alo atr sh) ++ (cW k aw ow)) ++ (lsO (awl 0) e (mc + nI 1) L.length :: lsA k e cap (uWa L) :: uWs k L)) _ := hP
  have hD : va_D A (((cH k ah aw adr aim ard asc ath awl alo atr sh) ++ (cW k aw ow)) ++ (lsO (awl 0) e (mc + nI 1) L.length :: lsA k e cap (uWa L) :: uWs k L)) := hD
  refine W.widen (k := 0) (n := 0) (Nat.le_of_ble_eq_true rfl) (Nat.le_of_ble_eq_true rfl) ?_
  exact retW_z hx hb hr hlocks hP hD hS ⟨(lsO (awl 0) e (mc + nI 1) L.length :: lsA k e cap (uWa L) :: uWs k L), ow, how, ⟨mc + nI 1, Or.inr ⟨e, cap, L, hus, hcap, (by omega), (by omega), rfl⟩⟩, rfl, rfl⟩ dX1_undo_40
set_option maxRecDepth 100000 in
theorem mtJ2_clearZ (l : Launch) (D : va_G) (k : Nat → ClassId) (Z : zZ) (hOK : zOK D zCl (zTys k) Z) (e0 q : Nat) (mc : Int32) : CtW l yJ2_clear cJ2_clear 4 none rJ2_0 Z D zCl [lsO q e0 mc 0] [.ref q] (fun r' w' => r' = none ∧ w' = [lsO q e0 (mc + 1) 0]) 0 0 := by
  refine CtW.of (by decide) (Nat.le_of_ble_eq_true rfl) ?_
  intro p e9 s m args below meth c A hE hA hP hD hS hz ls hl
  obtain ⟨hx, hb, hr, hml, hown, hts, hlocks, hname⟩ := hE
  have hown : s.vm.findClass RJ2 = some m.cls := hown
  have hK := hOK.1 _ _ _ hz
  have hN := hOK.2.1 _ _ _ hz
  have hl : lv_has ls 4 [(0, .ref q)] := hl
  refine lv_aload_n hx hb dJ2_clear_0 rfl (lv_at hl 0 rfl) ?_
  refine lv_dup hx hb dJ2_clear_1 rfl ?_
  refine va_get (ci := 15) (v := .int mc) (C := RJ2) (T := TJ2) (N := 3) hx hb hts in_J2 hown hK hP 0 rfl rfl 0 (by decide) (hts _ q347) (u_same (hts _ q348)) rfl dJ2_clear_2 ?_
  refine lv_iconst (v := (1 : Int32)) hx hb dJ2_clear_5 (by decide) ?_
  refine lv_iadd hx hb dJ2_clear_6 ?_
  refine va_put (ci := 15) (v := .int (mc + 1)) (ty := tyJ2 0) (C := RJ2) (T := TJ2) (N := 3) hx hb hts in_J2 tyJ2 tyJ2_ok nmJ2 hown hK hP hD hS 0 rfl rfl 0 (by decide) (hts _ q347) (u_same (hts _ q348)) rfl (tyJ2_ok 0 (by decide)) rfl rfl (Nat.le_of_ble_eq_true rfl) dJ2_clear_7 (fun H locs hP hD hS => ?_)
  have hP : va_P D zCl [lsO q e0 (mc + 1) 0] H := hP
  have hD : va_D A [lsO q e0 (mc + 1) 0] := hD
  refine lv_aload_n hx hb dJ2_clear_10 rfl (lv_at hl 0 rfl) ?_
  refine va_get (ci := 15) (v := .ref e0) (C := RJ2) (T := TJ2) (N := 3) hx hb hts in_J2 hown hK hP 0 rfl rfl 1 (by decide) (hts _ q344) (fun _ h9 => h9) rfl dJ2_clear_11 ?_
  refine lv_astore_n (lv' := [(1, .ref e0), (0, .ref q)]) hx hb dJ2_clear_14 rfl hl (by decide) rfl (fun ls hl => ?_)
  refine lv_aload_n hx hb dJ2_clear_15 rfl (lv_at hl 1 rfl) ?_
  refine va_get (ci := 15) (v := .int (nI 0)) (C := RJ2) (T := TJ2) (N := 3) hx hb hts in_J2 hown hK hP 0 rfl rfl 2 (by decide) (hts _ q345) (fun _ h9 => h9) rfl dJ2_clear_16 ?_
  refine lv_istore_n (lv' := [(2, .int (nI 0)), (1, .ref e0), (0, .ref q)]) hx hb dJ2_clear_19 rfl hl (by decide) rfl (fun ls hl => ?_)
  refine lv_aload_n hx hb dJ2_clear_20 rfl (lv_at hl 2 rfl) ?_
  refine lv_iconst (v := (0 : Int32)) hx hb dJ2_clear_21 (by decide) ?_
  refine lv_dup_x1 hx hb dJ2_clear_22 rfl rfl ?_
  refine va_put (ci := 15) (v := .int (0 : Int32)) (ty := tyJ2 2) (C := RJ2) (T := TJ2) (N := 3) hx hb hts in_J2 tyJ2 tyJ2_ok nmJ2 hown hK hP hD hS 0 rfl rfl 2 (by decide) (hts _ q345) (fun _ h9 => h9) rfl (tyJ2_ok 2 (by decide)) rfl rfl (Nat.le_of_ble_eq_true rfl) dJ2_clear_23 (fun H locs hP hD hS => ?_)
  have hP : va_P D zCl [lsO q e0 (mc + 1) 0] H := hP
  have hD : va_D A [lsO q e0 (mc + 1) 0] := hD
  refine lv_istore_n (lv' := [(3, .int (0 : Int32)), (2, .int (nI 0)), (1, .ref e0), (0, .ref q)]) hx hb dJ2_clear_26 rfl hl (by decide) rfl (fun ls hl => ?_)
  refine lv_iload_n hx hb dJ2_clear_27 rfl (lv_at hl 0 rfl) ?_
  refine lv_iload_n hx hb dJ2_clear_28 rfl (lv_at hl 1 rfl) ?_
  refine lv_icmp_ge (tgt := 42) hx hb dJ2_clear_29 (by decide) (fun _ => ?_) (fun c1 => absurd (Int32.le_refl _) c1)
  exact retW_v hx hb hr hlocks hP hD hS ⟨rfl, rfl⟩ dJ2_clear_42
section CLR
variable {p : Program} {l : Launch} {e : Env} {R : Room} {s : State} {m : MethodId} {args : Array Value} {below : List Frame} {meth : Method} {c : Code} {H : Heap} {locs : List Loc} {cells slots : Nat} {Q : State → Prop}
variable {pc : Nat} {ls : Array Slot} {rest : List Value} {D : va_G} {k : Nat → ClassId} {Z : zZ} {A : Nat → Prop} {cc : ByteArray} {nL index : Nat} {own : String}
theorem cClr (pre w : va_W) {e0 q : Nat} {us : List Wd} (S : CallFix p m c cc nL s args lw_all own) (hOK : zOK D zCl (zTys k) Z) (hz : Z A s s.heap) (hS : va_S A s.heap H locs) (hA : ∀ q : Nat, s.heap.size ≤ q → A q) (hw : wlP k e0 q us w) (hP : va_P D zCl (pre ++ w) H) (hD : va_D A (pre ++ w)) (cw : CallW R s args own RJ2 index yJ2_clear cJ2_clear 4 none (ws_ yJ2_clear cJ2_clear 4 none) rJ2_0 0 0 0)
    (hl : ls.size = nL) (hW : 2 * (F0 m pc ls (.ref q :: rest)).monitorRoom + (rest.map fun v => v.category).sum ≤ 8) (hf : cells ≤ R.cells ∧ slots ≤ R.slots) (hdg : decode cc pc = .ok (.invokevirtual index, 3))
    (kk : ∀ (T : va_W) (H1 : Heap) (locs1 : List Loc), wlP k e0 q [] T → va_P D zCl (pre ++ T) H1 → va_D A (pre ++ T) → va_S A s.heap H1 locs1 → W p l e R s m args below meth c H1 locs1 cells slots Q (F0 m (pc + 3) ls rest)) : W p l e R s m args below meth c H locs cells slots Q (F0 m pc ls (.ref q :: rest)) := by
  obtain ⟨mc, ⟨rfl, rfl⟩ | ⟨e, cap, L, rfl, hcap, hcl, hL12, rfl⟩⟩ := hw
  · exact cWVP pre [lsO q e0 mc 0] (As := []) (ci := 15) S hOK hz hS hA hP hD (mtJ2_clearZ l D k Z hOK e0 q mc) cw 0 rfl rfl rfl hl rfl hW hf hdg (fun r w' H1 locs1 h1 h2 h3 h4 => by
      obtain ⟨rfl, rfl⟩ := h1
      exact kk _ H1 locs1 ⟨mc + 1, Or.inl ⟨rfl, rfl⟩⟩ h2 h3 h4)
  · have h1 := zdropP (x := pre ++ [lsO q e mc L.length, lsA k e cap (uWa L)]) (y := uWs k L) (by simpa using hP)
    have h2 := zdropD (x := pre ++ [lsO q e mc L.length, lsA k e cap (uWa L)]) (y := uWs k L) (by simpa using hD)
    have hM := mtJ2_clearA l D k Z hOK q e mc cap (uWa L) (by rw [uWa_len]; exact hcl) (by omega)
    rw [uWa_len] at hM
    exact cWVP pre [lsO q e mc L.length, lsA k e cap (uWa L)] (As := []) (ci := 15) S hOK hz hS hA h1 h2 hM cw 0 rfl rfl rfl hl rfl hW hf hdg (fun r w' H1 locs1 h1 h2 h3 h4 => by
      obtain ⟨rfl, rfl⟩ := h1
      exact kk _ H1 locs1 ⟨mc + 1, Or.inr ⟨e, cap, [], rfl, hcap, Nat.zero_le _, Nat.zero_le _, rfl⟩⟩ h2 h3 h4)
end CLR
