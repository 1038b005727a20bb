/-! THE SMALL MACHINE, 22: the real machine follows it: contracts out of calls -/
set_option maxRecDepth 100000
theorem am_chkAll (m : Nat) (h : m < 221) : am_chk (am_by m) (am_ow m) (decide (am_kd m = 2)) (am_cd m) = true := by
  match m, h with
  | 0, _ => exact am_ok0
  | 1, _ => exact am_ok1
  | 2, _ => exact am_ok2
  | 3, _ => exact am_ok3
  | 4, _ => exact am_ok4
  | 5, _ => exact am_ok5
  | 6, _ => exact am_ok6
  | 7, _ => exact am_ok7
  | 8, _ => exact am_ok8
  | 9, _ => exact am_ok9
  | 10, _ => exact am_ok10
  | 11, _ => exact am_ok11
  | 12, _ => exact am_ok12
  | 13, _ => exact am_ok13
  | 14, _ => exact am_ok14
  | 15, _ => exact am_ok15
  | 16, _ => exact am_ok16
  | 17, _ => exact am_ok17
  | 18, _ => exact am_ok18
  | 19, _ => exact am_ok19
  | 20, _ => exact am_ok20
  | 21, _ => exact am_ok21
  | 22, _ => exact am_ok22
  | 23, _ => exact am_ok23
  | 24, _ => exact am_ok24
  | 25, _ => exact am_ok25
  | 26, _ => exact am_ok26
  | 27, _ => exact am_ok27
  | 28, _ => exact am_ok28
  | 29, _ => exact am_ok29
  | 30, _ => exact am_ok30
  | 31, _ => exact am_ok31
  | 32, _ => exact am_ok32
  | 33, _ => exact am_ok33
  | 34, _ => exact am_ok34
  | 35, _ => exact am_ok35
  | 36, _ => exact am_ok36
  | 37, _ => exact am_ok37
  | 38, _ => exact am_ok38
  | 39, _ => exact am_ok39
  | 40, _ => exact am_ok40
  | 41, _ => exact am_ok41
  | 42, _ => exact am_ok42
  | 43, _ => exact am_ok43
  | 44, _ => exact am_ok44
  | 45, _ => exact am_ok45
  | 46, _ => exact am_ok46
  | 47, _ => exact am_ok47
  | 48, _ => exact am_ok48
  | 49, _ => exact am_ok49
  | 50, _ => exact am_ok50
  | 51, _ => exact am_ok51
  | 52, _ => exact am_ok52
  | 53, _ => exact am_ok53
  | 54, _ => exact am_ok54
  | 55, _ => exact am_ok55
  | 56, _ => exact am_ok56
  | 57, _ => exact am_ok57
  | 58, _ => exact am_ok58
  | 59, _ => exact am_ok59
  | 60, _ => exact am_ok60
  | 61, _ => exact am_ok61
  | 62, _ => exact am_ok62
  | 63, _ => exact am_ok63
  | 64, _ => exact am_ok64
  | 65, _ => exact am_ok65
  | 66, _ => exact am_ok66
  | 67, _ => exact am_ok67
  | 68, _ => exact am_ok68
  | 69, _ => exact am_ok69
  | 70, _ => exact am_ok70
  | 71, _ => exact am_ok71
  | 72, _ => exact am_ok72
  | 73, _ => exact am_ok73
  | 74, _ => exact am_ok74
  | 75, _ => exact am_ok75
  | 76, _ => exact am_ok76
  | 77, _ => exact am_ok77
  | 78, _ => exact am_ok78
  | 79, _ => exact am_ok79
  | 80, _ => exact am_ok80
  | 81, _ => exact am_ok81
  | 82, _ => exact am_ok82
  | 83, _ => exact am_ok83
  | 84, _ => exact am_ok84
  | 85, _ => exact am_ok85
  | 86, _ => exact am_ok86
  | 87, _ => exact am_ok87
  | 88, _ => exact am_ok88
  | 89, _ => exact am_ok89
  | 90, _ => exact am_ok90
  | 91, _ => exact am_ok91
  | 92, _ => exact am_ok92
  | 93, _ => exact am_ok93
  | 94, _ => exact am_ok94
  | 95, _ => exact am_ok95
  | 96, _ => exact am_ok96
  | 97, _ => exact am_ok97
  | 98, _ => exact am_ok98
  | 99, _ => exact am_ok99
  | 100, _ => exact am_ok100
  | 101, _ => exact am_ok101
  | 102, _ => exact am_ok102
  | 103, _ => exact am_ok103
  | 104, _ => exact am_ok104
  | 105, _ => exact am_ok105
  | 106, _ => exact am_ok106
  | 107, _ => exact am_ok107
  | 108, _ => exact am_ok108
  | 109, _ => exact am_ok109
  | 110, _ => exact am_ok110
  | 111, _ => exact am_ok111
  | 112, _ => exact am_ok112
  | 113, _ => exact am_ok113
  | 114, _ => exact am_ok114
  | 115, _ => exact am_ok115
  | 116, _ => exact am_ok116
  | 117, _ => exact am_ok117
  | 118, _ => exact am_ok118
  | 119, _ => exact am_ok119
  | 120, _ => exact am_ok120
  | 121, _ => exact am_ok121
  | 122, _ => exact am_ok122
  | 123, _ => exact am_ok123
  | 124, _ => exact am_ok124
  | 125, _ => exact am_ok125
  | 126, _ => exact am_ok126
  | 127, _ => exact am_ok127
  | 128, _ => exact am_ok128
  | 129, _ => exact am_ok129
  | 130, _ => exact am_ok130
  | 131, _ => exact am_ok131
  | 132, _ => exact am_ok132
  | 133, _ => exact am_ok133
  | 134, _ => exact am_ok134
  | 135, _ => exact am_ok135
  | 136, _ => exact am_ok136
  | 137, _ => exact am_ok137
  | 138, _ => exact am_ok138
  | 139, _ => exact am_ok139
  | 140, _ => exact am_ok140
  | 141, _ => exact am_ok141
  | 142, _ => exact am_ok142
  | 143, _ => exact am_ok143
  | 144, _ => exact am_ok144
  | 145, _ => exact am_ok145
  | 146, _ => exact am_ok146
  | 147, _ => exact am_ok147
  | 148, _ => exact am_ok148
  | 149, _ => exact am_ok149
  | 150, _ => exact am_ok150
  | 151, _ => exact am_ok151
  | 152, _ => exact am_ok152
  | 153, _ => exact am_ok153
  | 154, _ => exact am_ok154
  | 155, _ => exact am_ok155
  | 156, _ => exact am_ok156
  | 157, _ => exact am_ok157
  | 158, _ => exact am_ok158
  | 159, _ => exact am_ok159
  | 160, _ => exact am_ok160
  | 161, _ => exact am_ok161
  | 162, _ => exact am_ok162
  | 163, _ => exact am_ok163
  | 164, _ => exact am_ok164
  | 165, _ => exact am_ok165
  | 166, _ => exact am_ok166
  | 167, _ => exact am_ok167
  | 168, _ => exact am_ok168
  | 169, _ => exact am_ok169
  | 170, _ => exact am_ok170
  | 171, _ => exact am_ok171
  | 172, _ => exact am_ok172
  | 173, _ => exact am_ok173
  | 174, _ => exact am_ok174
  | 175, _ => exact am_ok175
  | 176, _ => exact am_ok176
  | 177, _ => exact am_ok177
  | 178, _ => exact am_ok178
  | 179, _ => exact am_ok179
  | 180, _ => exact am_ok180
  | 181, _ => exact am_ok181
  | 182, _ => exact am_ok182
  | 183, _ => exact am_ok183
  | 184, _ => exact am_ok184
  | 185, _ => exact am_ok185
  | 186, _ => exact am_ok186
  | 187, _ => exact am_ok187
  | 188, _ => exact am_ok188
  | 189, _ => exact am_ok189
  | 190, _ => exact am_ok190
  | 191, _ => exact am_ok191
  | 192, _ => exact am_ok192
  | 193, _ => exact am_ok193
  | 194, _ => exact am_ok194
  | 195, _ => exact am_ok195
  | 196, _ => exact am_ok196
  | 197, _ => exact am_ok197
  | 198, _ => exact am_ok198
  | 199, _ => exact am_ok199
  | 200, _ => exact am_ok200
  | 201, _ => exact am_ok201
  | 202, _ => exact am_ok202
  | 203, _ => exact am_ok203
  | 204, _ => exact am_ok204
  | 205, _ => exact am_ok205
  | 206, _ => exact am_ok206
  | 207, _ => exact am_ok207
  | 208, _ => exact am_ok208
  | 209, _ => exact am_ok209
  | 210, _ => exact am_ok210
  | 211, _ => exact am_ok211
  | 212, _ => exact am_ok212
  | 213, _ => exact am_ok213
  | 214, _ => exact am_ok214
  | 215, _ => exact am_ok215
  | 216, _ => exact am_ok216
  | 217, _ => exact am_ok217
  | 218, _ => exact am_ok218
  | 219, _ => exact am_ok219
  | 220, _ => exact am_ok220
  | n + 221, h => exact absurd h (by omega)
theorem am_lg_len {φ : Nat → Nat} (a : List Value) : (lg_sl (a.map (am_fv φ))).length = (am_lay a).length := by
  induction a with
  | nil => rfl
  | cons v t ih =>
    have e1 : lg_sl ((v :: t).map (am_fv φ)) = (if (am_fv φ v).category = 2 then [Slot.val (am_fv φ v), .second] else [.val (am_fv φ v)]) ++ lg_sl (t.map (am_fv φ)) := rfl
    rw [e1, am_fv_cat, List.length_append, ih, am_lay]
    by_cases e : v.category = 2
    · rw [if_pos e, if_pos e]; simp; omega
    · rw [if_neg e, if_neg e]; simp; omega
section SN8
variable {dC : Nat → ClassId} {dI : Nat → Nat → Nat} {dA : Nat → ClassId} {ad : Nat → Nat} {B0 : Nat} {H0 : Heap} {φ : Nat → Nat} {T0 : Nat} {p : Program} {l : Launch} {e : Env} {R : Room} {s : State} {mi : MethodId} {args : Array Value} {below : List Frame} {meth : Method} {c : Code} {locs : List Loc} {c0 s0 c1 s1 : Nat} {U : State}
theorem am_St (h1 : U.heap.size ≤ s.heap.size + c1) (h2 : am_tot U.heap ≤ am_tot s.heap + s1) (X : Stand p l e R s mi args below meth c U locs c0 s0) : Stand p l e R s mi args below meth c U locs c1 s1 := by
  obtain ⟨e1, e2⟩ := am_totS X
  have q := X.same
  have q4 : U.slotsUsed = s.slotsUsed + _ := q.2.2.2.1
  refine ⟨X.admits, X.cas, X.clock, X.frames, X.room, X.hears, X.method, X.code, X.here, X.tail, X.warmed, X.limits, X.bytes, q.1, q.2.1, h1, q4, ?_, q.2.2.2.2.2⟩
  have h3 := q4
  rw [e1, e2] at h3
  omega
theorem am_ent_has {ls : Array Slot} {n : Nat} {a : List Value} (h : lv_has ls n (lv_args 0 (a.map (am_fv φ)))) : lv_has ls n (am_as φ 0 (am_ent n a)) := by
  unfold am_ent
  rw [am_as_lay]
  exact h
set_option maxHeartbeats 4000000 in
theorem am_sound (hl : l.stackTraces = false) (F : am_F ad B0 φ) : ∀ (d m : Nat) (a : List Value) (h : am_H) (K : am_O → am_H → Prop), AC d m a h K → m < 221 ∧ ∀ kc ks, am_Met l (am_y m) (am_cdw (am_y m) (am_by m) (am_mL m) (am_rt m) (am_hh m) :: lw_all) { frames := d + 6, cells := kc, slots := ks, locals := 100 + 40 * d } (am_Pc dC dI dA ad B0 H0 φ T0 a h kc ks) (am_Qc dC dI dA B0 H0 φ T0 K) kc ks (fun q => B0 ≤ q) := by
  intro d
  induction d with
  | zero => intro m a h K k; exact k.elim
  | succ d ih =>
    intro m a h K k
    obtain ⟨hm, hlen, k⟩ := k
    refine ⟨hm, fun kc ks => ?_⟩
    have hmok := am_mokAll m hm
    refine am_ofW hmok.2.2.2.1 ?_
    intro p e s mi args below meth c s₁ B hml hex hP
    obtain ⟨rfl, hJ, hK, hE, hsz, hto⟩ := hP
    have hts0 : ∀ w ∈ (am_cdw (am_y m) (am_by m) (am_mL m) (am_rt m) (am_hh m) :: lw_all), w.before (a.map (am_fv φ)).toArray s = true := atoms_spec B.pre
    have hown : s.vm.findClass (am_on (am_ow m)) = some mi.cls := by rw [← hmok.2.2.1]; exact findClass_of_methodNamed B.named
    have hrr : am_rr m = am_rt m := by unfold am_rr; rw [if_neg (by omega)]
    have X : am_X dC dI dA ad B0 H0 φ T0 m (am_mL m) (am_by m) p l { frames := d + 1 + 6, cells := kc, slots := ks, locals := 100 + 40 * (d + 1) } s mi (a.map (am_fv φ)).toArray meth c :=
      ⟨⟨B.exec, B.bytes, fun w hw => hts0 w (List.mem_cons_of_mem _ hw), hown, hl, B.notSynchronized, hml, by rw [hrr]; exact B.returns, hex⟩, ⟨hK, hE, hJ.1.2.2.1, F⟩, ⟨am_chkAll m hm, fun h2 => (name_of_methodNamed B.named B.method).1.trans (hmok.2.2.2.2.2.2.2.2.1 h2).1⟩, hsz, hto, by show 6 ≤ d + 1 + 6; omega, by show 100 ≤ 100 + 40 * (d + 1); omega⟩
    have hM : am_eM dC dI dA ad B0 H0 φ T0 l { frames := d + 1 + 6, cells := kc, slots := ks, locals := 100 + 40 * (d + 1) } (AC d) := fun m' a' h' K' k' => ⟨(ih m' a' h' K' k').1, d + 6, 100 + 40 * d, by show d + 6 + 1 ≤ d + 1 + 6; omega, by show 100 + 40 * d + 40 ≤ 100 + 40 * (d + 1); omega, (ih m' a' h' K' k').2⟩
    have big : ∀ {h' : am_H} {H : Heap}, am_J dC dI dA B0 H0 φ T0 h' H → H.size ≤ s.heap.size + kc ∧ am_tot H ≤ am_tot s.heap + ks := by
      intro h' H hJ'
      have h1 := hJ'.size F
      have h2 := hJ'.2.2
      simp only [am_capC, am_capS] at h2
      exact ⟨by omega, by omega⟩
    have eL : am_eL dC dI dA B0 H0 φ T0 p l e { frames := d + 1 + 6, cells := kc, slots := ks, locals := 100 + 40 * (d + 1) } s mi (a.map (am_fv φ)).toArray below meth c (am_MQ below (am_Qc dC dI dA B0 H0 φ T0 K) (a.map (am_fv φ)).toArray s kc ks (fun q => B0 ≤ q)) K := by
      intro x h' U locs c1 s1 g hq hJ' hexc hfs XU hg hlk hen hout hlo
      refine am_leaves (am_St (big hJ').1 (big hJ').2 XU) hg hlk hen B.notSynchronized hout hlo (fun t ht hW => ?_)
      exact ⟨.inr x, h', hq, by rw [ht]; exact hJ', rfl, hexc, hfs⟩
    have eR : am_eR dC dI dA B0 H0 φ T0 m (am_by m) p l e { frames := d + 1 + 6, cells := kc, slots := ks, locals := 100 + 40 * (d + 1) } s mi (a.map (am_fv φ)).toArray below meth c (am_MQ below (am_Qc dC dI dA B0 H0 φ T0 K) (a.map (am_fv φ)).toArray s kc ks (fun q => B0 ≤ q)) K := by
      intro v h' H locs ls pc c0 s0 i hq hJ' hlo hr hd
      refine am_Wany (big hJ').1 (big hJ').2 (am_ofMQ ?_)
      have hqq : ∀ w, w = v.map (am_fv φ) → ∀ t : State, t.heap = H → s.WarmedH t.vm → am_Qc dC dI dA B0 H0 φ T0 K (a.map (am_fv φ)).toArray s (.returned w) t := fun w hw t ht hW => ⟨.inl v, h', hq, by rw [ht]; exact hJ', hw⟩
      have hret := B.returns
      rw [hrr] at hr
      cases v with
      | none =>
        obtain ⟨rfl, h2⟩ := hr
        exact W.vret B.exec B.bytes (hret.trans h2) (hqq _ rfl) hlo hd (hlocks := B.notSynchronized)
      | some v =>
        cases v with
        | int x =>
          obtain ⟨rfl, ty, h2, h3⟩ := hr
          exact W.zret B.exec B.bytes (hret.trans h2) h3 (hqq _ rfl) hlo hd (hlocks := B.notSynchronized)
        | double x =>
          obtain ⟨rfl, h2⟩ := hr
          exact W.dret B.exec B.bytes (hret.trans h2) (hqq _ rfl) hlo hd (hlocks := B.notSynchronized)
        | null =>
          obtain ⟨rfl, -, ty, h2, h3⟩ := hr
          exact W.aret B.exec B.bytes (hret.trans h2) (by cases ty <;> simp [FieldType.isReference] at h3 <;> simp) (Or.inl rfl) (hqq _ rfl) hlo hd (hlocks := B.notSynchronized)
        | ref x =>
          obtain ⟨rfl, -, ty, h2, h3⟩ := hr
          exact W.aret B.exec B.bytes (hret.trans h2) (by cases ty <;> simp [FieldType.isReference] at h3 <;> simp) (Or.inr ⟨_, rfl⟩) (hqq _ rfl) hlo hd (hlocks := B.notSynchronized)
        | long x => obtain ⟨-, h2, -⟩ := hr; simp [am_isR] at h2
        | float x => obtain ⟨-, h2, -⟩ := hr; simp [am_isR] at h2
        | retAddr x => obtain ⟨-, h2, -⟩ := hr; simp [am_isR] at h2
    have eT : am_eT dC dI dA B0 H0 φ T0 m (am_mL m) (am_by m) p l e { frames := d + 1 + 6, cells := kc, slots := ks, locals := 100 + 40 * (d + 1) } s mi (a.map (am_fv φ)).toArray below meth c (am_MQ below (am_Qc dC dI dA B0 H0 φ T0 K) (a.map (am_fv φ)).toArray s kc ks (fun q => B0 ≤ q)) K := by
      intro ci idx pc h' H locs ls c0 s0 hexc how hhs hlk d0 d3 d4 d7 hc hs hq hJ' hlo hls
      have h1 := hJ'.size F
      have h2 := hJ'.2.2.1
      have h25 := hJ'.2.1
      have hc9 := hc
      have hs9 := hs
      simp only [am_capC] at hc
      simp only [am_capS] at hs
      refine am_Wex fun z1 z2 => ?_
      rw [how] at hown
      have hex0 : c.exceptionTable.toList = [] := by
        have : am_hh m = [] := by unfold am_hh; rw [hhs]; rfl
        rw [this] at hex
        exact List.map_eq_nil_iff.mp hex
      refine am_mono (fun t ht => ?_) (am_throwW (Qc := fun _ _ o t => o = .threw (am_rh φ h').2.1 ∧ am_Rel dC dI dA B0 H0 (am_nw (am_rh φ h') (.inr (ci, [])) 6) t.heap) B.exec B.bytes (fun w hw => hts0 w (List.mem_cons_of_mem _ hw)) hown hK hJ'.1 hJ.1.2.2.1 hlo hl B.notSynchronized (hls.trans hml.symm) hex0 hexc hlk d0 d3 d4 d7 (by show _ + 1 ≤ kc; omega) (by show _ + 6 ≤ ks; omega) (by show 6 ≤ d + 1 + 6; omega) (by show 100 ≤ 100 + 40 * (d + 1); omega) (fun t hR hW => ⟨rfl, hR⟩))
      obtain ⟨o, g1, g2, ⟨rfl, g4⟩, L, ⟨g5, g6⟩, g7⟩ := ht
      have hst0 : s.slotsTrue = true := by
        have h := B.room
        simp only [State.hasRoom, Bool.and_eq_true] at h
        exact h.2
      have hst1 : ({ t with vm := s.vm } : State).slotsTrue = true := State.slotsTrue_of_sameButNew hst0 g6
      have hst2 : s.slotsUsed = am_tot s.heap := eq_of_beq hst0
      have hst3 : t.slotsUsed = am_tot t.heap := eq_of_beq hst1
      obtain ⟨y1, y2, y3, y4, y5, y6⟩ := g6
      have y7 : t.slotsUsed ≤ s.slotsUsed + (am_tot H - am_tot s.heap + 6) := Nat.le_trans (Nat.le_of_eq y4) (Nat.add_le_add_left y5 _)
      have y3' : t.heap.size ≤ s.heap.size + (H.size - s.heap.size + 1) := y3
      have htt : am_tot t.heap ≤ am_tot H + 6 := by
        rw [hst2, hst3] at y7
        omega
      refine ⟨_, g1, g2, ⟨.inr (h'.2.1, ci), _, hq, hJ'.nw F rfl g4 htt hc9 hs9, rfl, hexc, [], by simp [am_nw]⟩, L, ⟨g5, y1, y2, ?_, y4, ?_, y6⟩, g7⟩
      · show t.heap.size ≤ _
        omega
      · omega
    have hll := lv_entry (a.map (am_fv φ)) (n := am_mL m) (by rw [am_lg_len]; exact hlen)
    rw [lg_entry_eq]
    generalize (lg_sl (a.map (am_fv φ)) ++ List.replicate (am_mL m - (lg_sl (a.map (am_fv φ))).length) Slot.unset).toArray = ls at hll ⊢
    exact am_walk X hM eL eR eT k s.heap [] ls 0 0 hJ (fun q hq => by cases hq) (am_ent_has hll) (by unfold am_ent; simp; omega)
end SN8
