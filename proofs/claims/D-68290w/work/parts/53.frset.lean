/-! frames -/
set_option maxRecDepth 100000
def S_X21_need : List Nat := []
theorem fr_X21_need {x0 : Int} {G : Gt} {D : Dt} {c : Ct} : Fp S_X21_need D (fun o => o.2.1) (q_X21_need x0 G D c) := by
  unfold q_X21_need
  refine fp_ite ?_ ?_
  · skip
    exact fp_ret Fr.rf
  · skip
    exact fp_ret Fr.rf
def S_X24_set : List Nat := [2400, 2401, 2402, 2403]
theorem fr_X24_set {a0 : Nat} {x1 : Int} {x2 : Int} {x3 : Int} {x4 : Int} {G : Gt} {D : Dt} : Fr S_X24_set D ((fun o => o) (q_X24_set a0 x1 x2 x3 x4 G D)) := by
  have h : Fp S_X24_set D (fun o => o) (some (q_X24_set a0 x1 x2 x3 x4 G D)) := by
    unfold q_X24_set
    refine fp_sw (Fr.I Fr.rf rfl) fun _ H1 => ?_
    refine fp_sw (Fr.I H1 rfl) fun _ H2 => ?_
    refine fp_sw (Fr.I H2 rfl) fun _ H3 => ?_
    refine fp_sw (Fr.I H3 rfl) fun _ H4 => ?_
    exact fp_ret H4
  exact h _ rfl
def S_X21_tile : List Nat := [2111, 2400, 2401, 2402, 2403]
theorem fr_X21_tile_39 {x1 : Int} {x2 : Int} {x3 : Int} {x4 : Int} {ts0 : Int} {G : Gt} {D : Dt} {c : Ct} : Fp S_X21_tile D (fun o => o.2.1) (q_X21_tile_39 x1 x2 x3 x4 ts0 G D c) := by
  unfold q_X21_tile_39
  refine fp_t fr_X21_need rfl Fr.rf fun _ _ H1 => ?_
  refine fp_l (g := (fun o => o)) fr_X24_set rfl H1 fun _ H2 => ?_
  refine fp_w (Fr.I H2 rfl) fun _ H3 => ?_
  exact fp_ret H3
theorem fr_X21_tile_38 {x1 : Int} {x2 : Int} {x3 : Int} {x4 : Int} {G : Gt} {D : Dt} {c : Ct} : Fp S_X21_tile D (fun o => o.2.1) (q_X21_tile_38 x1 x2 x3 x4 G D c) := by
  unfold q_X21_tile_38
  exact Fp.tr Fr.rf (fr_X21_tile_39)
theorem fr_X21_tile {x1 : Int} {x2 : Int} {x3 : Int} {x4 : Int} {G : Gt} {D : Dt} {c : Ct} : Fp S_X21_tile D (fun o => o.2.1) (q_X21_tile x1 x2 x3 x4 G D c) := by
  unfold q_X21_tile
  refine fp_ite ?_ ?_
  · skip
    exact Fp.tr Fr.rf (fr_X21_tile_38)
  · skip
    refine fp_ite ?_ ?_
    · skip
      exact Fp.tr Fr.rf (fr_X21_tile_38)
    · skip
      refine fp_ite ?_ ?_
      · skip
        exact Fp.tr Fr.rf (fr_X21_tile_38)
      · skip
        refine fp_ite ?_ ?_
        · skip
          exact Fp.tr Fr.rf (fr_X21_tile_38)
        · skip
          refine fp_ite ?_ ?_
          · skip
            exact Fp.tr Fr.rf (fr_X21_tile_38)
          · skip
            refine fp_ite ?_ ?_
            · skip
              exact Fp.tr Fr.rf (fr_X21_tile_38)
            · skip
              exact Fp.tr Fr.rf (fr_X21_tile_39)
def S_X21_must : List Nat := []
theorem fr_X21_must {x0 : Int} {G : Gt} {D : Dt} {c : Ct} : Fp S_X21_must D (fun o => o.2.1) (q_X21_must x0 G D c) := by
  unfold q_X21_must
  refine fp_ite ?_ ?_
  · skip
    exact fp_ret Fr.rf
  · skip
    exact fp_ret Fr.rf
def S_X72_begin : List Nat := [7200, 7201, 7202, 7203, 7204, 7205, 7206]
def S_X72_begin_29 : List Nat := [7205, 7206]
theorem fr_X72_begin_29 {N : Nat} (n : Nat) : ∀ {a0 : Nat} {x3 : Int} {G : Gt} {D : Dt}, Fp S_X72_begin_29 D (fun o => o) (q_X72_begin_29 N n a0 x3 G D) := by
  induction n with
  | zero =>
    intros; exact fp_no
  | succ n ih =>
    intro a0 x3 G D
    show Fp _ _ _ (q_X72_begin_29 N (n + 1) a0 x3 G D)
    rw [q_X72_begin_29]
    refine fp_ite ?_ ?_
    · skip
      exact fp_ret Fr.rf
    · skip
      refine fp_tA rfl Fr.rf fun _ H1 => ?_
      refine fp_tA rfl H1 fun _ H2 => ?_
      refine fp_gd ?_
      refine fp_let ?_
      exact Fp.tr H2 ih
theorem fr_X72_begin {N : Nat} {a0 : Nat} {x1 : Int} {x2 : Int} {G : Gt} {D : Dt} : Fp S_X72_begin D (fun o => o) (q_X72_begin N a0 x1 x2 G D) := by
  unfold q_X72_begin
  refine fp_w (Fr.I Fr.rf rfl) fun _ H1 => ?_
  refine fp_w (Fr.I H1 rfl) fun _ H2 => ?_
  refine fp_w (Fr.I H2 rfl) fun _ H3 => ?_
  refine fp_w (Fr.I H3 rfl) fun _ H4 => ?_
  refine fp_w (Fr.I H4 rfl) fun _ H5 => ?_
  exact Fp.tr H5 (Fp.mo (fr_X72_begin_29 _) rfl)
def S_X21_component : List Nat := [2100, 2101, 2111, 7200, 7201, 7202, 7203, 7204, 7205, 7206]
def S_X21_component_85 : List Nat := [2101, 2111, 7200, 7201, 7202, 7203, 7204, 7205, 7206]
theorem fr_X21_component_85 {N : Nat} {x1 : Int} {x2 : Int} {x3 : Int} {G : Gt} {D : Dt} {c : Ct} : Fp S_X21_component_85 D (fun o => o.2.1) (q_X21_component_85 N x1 x2 x3 G D c) := by
  unfold q_X21_component_85
  refine fp_bnd fun _ => ?_
  refine fp_bnd fun _ => ?_
  refine fp_b fr_X72_begin rfl Fr.rf fun _ H1 => ?_
  refine fp_bnd fun _ => ?_
  refine fp_bnd fun _ => ?_
  refine fp_w (Fr.I H1 rfl) fun _ H2 => ?_
  refine fp_w (Fr.I H2 rfl) fun _ H3 => ?_
  refine fp_let ?_
  refine fp_gd ?_
  refine fp_let ?_
  refine fp_w (Fr.I H3 rfl) fun _ H4 => ?_
  exact fp_ret H4
theorem fr_X21_component_54 {N : Nat} {x1 : Int} {x2 : Int} {x3 : Int} {ts0 : Int} {G : Gt} {D : Dt} {c : Ct} : Fp S_X21_component_85 D (fun o => o.2.1) (q_X21_component_54 N x1 x2 x3 ts0 G D c) := by
  unfold q_X21_component_54
  refine fp_u fr_X21_must rfl Fr.rf fun _ _ H1 => ?_
  refine fp_bnd fun _ => ?_
  refine fp_ite ?_ ?_
  · skip
    refine fp_let ?_
    refine fp_b fr_mk0 rfl H1 fun _ H2 => ?_
    refine fp_bnd fun _ => ?_
    exact Fp.tr H2 (fr_X21_component_85)
  · skip
    exact Fp.tr H1 (fr_X21_component_85)
theorem fr_X21_component_37 {N : Nat} {x1 : Int} {x2 : Int} {x3 : Int} {ts0 : Int} {G : Gt} {D : Dt} {c : Ct} : Fp S_X21_component_85 D (fun o => o.2.1) (q_X21_component_37 N x1 x2 x3 ts0 G D c) := by
  unfold q_X21_component_37
  refine fp_u fr_X21_need rfl Fr.rf fun _ _ H1 => ?_
  exact Fp.tr H1 (fr_X21_component_54)
theorem fr_X21_component_36 {N : Nat} {x1 : Int} {x2 : Int} {x3 : Int} {G : Gt} {D : Dt} {c : Ct} : Fp S_X21_component_85 D (fun o => o.2.1) (q_X21_component_36 N x1 x2 x3 G D c) := by
  unfold q_X21_component_36
  exact Fp.tr Fr.rf (fr_X21_component_37)
theorem fr_X21_component {N : Nat} {x1 : Int} {x2 : Int} {x3 : Int} {G : Gt} {D : Dt} {c : Ct} : Fp S_X21_component D (fun o => o.2.1) (q_X21_component N x1 x2 x3 G D c) := by
  unfold q_X21_component
  refine fp_let ?_
  refine fp_ite ?_ ?_
  · skip
    exact Fp.tr Fr.rf (Fp.mo (fr_X21_component_36) rfl)
  · skip
    refine fp_let ?_
    refine fp_ite ?_ ?_
    · skip
      exact Fp.tr Fr.rf (Fp.mo (fr_X21_component_36) rfl)
    · skip
      refine fp_let ?_
      refine fp_ite ?_ ?_
      · skip
        exact Fp.tr Fr.rf (Fp.mo (fr_X21_component_36) rfl)
      · skip
        exact Fp.tr Fr.rf (Fp.mo (fr_X21_component_37) rfl)
def S_X21_find : List Nat := []
theorem fr_X21_find {x0 : Int} {G : Gt} {D : Dt} {c : Ct} : Fp S_X21_find D (fun o => o.2.1) (q_X21_find x0 G D c) := by
  unfold q_X21_find
  refine fp_ite ?_ ?_
  · skip
    exact fp_ret Fr.rf
  · skip
    exact fp_ret Fr.rf
def S_X21_precincts : List Nat := [2111, 7205, 7206]
theorem fr_X21_precincts_78 {x1 : Int} {x2 : Int} {x3 : Int} {x4 : Int} {ts0 : Int} {G : Gt} {D : Dt} {c : Ct} : Fp S_X21_precincts D (fun o => o.2.1) (q_X21_precincts_78 x1 x2 x3 x4 ts0 G D c) := by
  unfold q_X21_precincts_78
  refine fp_t fr_X21_need rfl Fr.rf fun _ _ H1 => ?_
  refine fp_bnd fun _ => ?_
  refine fp_bnd fun _ => ?_
  refine fp_tA rfl H1 fun _ H2 => ?_
  refine fp_bnd fun _ => ?_
  refine fp_bnd fun _ => ?_
  refine fp_tA rfl H2 fun _ H3 => ?_
  refine fp_w (Fr.I H3 rfl) fun _ H4 => ?_
  exact fp_ret H4
theorem fr_X21_precincts_77 {x1 : Int} {x2 : Int} {x3 : Int} {x4 : Int} {G : Gt} {D : Dt} {c : Ct} : Fp S_X21_precincts D (fun o => o.2.1) (q_X21_precincts_77 x1 x2 x3 x4 G D c) := by
  unfold q_X21_precincts_77
  exact Fp.tr Fr.rf (fr_X21_precincts_78)
theorem fr_X21_precincts_48 {x1 : Int} {x2 : Int} {x3 : Int} {x4 : Int} {ts0 : Int} {G : Gt} {D : Dt} {c : Ct} : Fp S_X21_precincts D (fun o => o.2.1) (q_X21_precincts_48 x1 x2 x3 x4 ts0 G D c) := by
  unfold q_X21_precincts_48
  refine fp_let ?_
  refine fp_ite ?_ ?_
  · skip
    exact Fp.tr Fr.rf (fr_X21_precincts_77)
  · skip
    refine fp_let ?_
    refine fp_ite ?_ ?_
    · skip
      exact Fp.tr Fr.rf (fr_X21_precincts_77)
    · skip
      exact Fp.tr Fr.rf (fr_X21_precincts_78)
theorem fr_X21_precincts_36 {x1 : Int} {x2 : Int} {x3 : Int} {x4 : Int} {ts0 : Int} {G : Gt} {D : Dt} {c : Ct} : Fp S_X21_precincts D (fun o => o.2.1) (q_X21_precincts_36 x1 x2 x3 x4 ts0 G D c) := by
  unfold q_X21_precincts_36
  refine fp_t fr_X21_find rfl Fr.rf fun _ _ H1 => ?_
  exact Fp.tr H1 (fr_X21_precincts_48)
theorem fr_X21_precincts_35 {x1 : Int} {x2 : Int} {x3 : Int} {x4 : Int} {G : Gt} {D : Dt} {c : Ct} : Fp S_X21_precincts D (fun o => o.2.1) (q_X21_precincts_35 x1 x2 x3 x4 G D c) := by
  unfold q_X21_precincts_35
  exact Fp.tr Fr.rf (fr_X21_precincts_36)
theorem fr_X21_precincts {x1 : Int} {x2 : Int} {x3 : Int} {x4 : Int} {G : Gt} {D : Dt} {c : Ct} : Fp S_X21_precincts D (fun o => o.2.1) (q_X21_precincts x1 x2 x3 x4 G D c) := by
  unfold q_X21_precincts
  refine fp_gd ?_
  refine fp_let ?_
  refine fp_ite ?_ ?_
  · skip
    exact Fp.tr Fr.rf (fr_X21_precincts_35)
  · skip
    refine fp_bnd fun _ => ?_
    refine fp_bnd fun _ => ?_
    refine fp_let ?_
    refine fp_ite ?_ ?_
    · skip
      exact Fp.tr Fr.rf (fr_X21_precincts_35)
    · skip
      exact Fp.tr Fr.rf (fr_X21_precincts_36)
def S_X21_layers : List Nat := [2102, 2103, 2111]
theorem fr_X21_layers_25 {x1 : Int} {x2 : Int} {ts0 : Int} {G : Gt} {D : Dt} {c : Ct} : Fp S_X21_layers D (fun o => o.2.1) (q_X21_layers_25 x1 x2 ts0 G D c) := by
  unfold q_X21_layers_25
  refine fp_t fr_X21_need rfl Fr.rf fun _ _ H1 => ?_
  refine fp_w (Fr.I H1 rfl) fun _ H2 => ?_
  refine fp_w (Fr.I H2 rfl) fun _ H3 => ?_
  refine fp_w (Fr.I H3 rfl) fun _ H4 => ?_
  exact fp_ret H4
theorem fr_X21_layers_24 {x1 : Int} {x2 : Int} {G : Gt} {D : Dt} {c : Ct} : Fp S_X21_layers D (fun o => o.2.1) (q_X21_layers_24 x1 x2 G D c) := by
  unfold q_X21_layers_24
  exact Fp.tr Fr.rf (fr_X21_layers_25)
theorem fr_X21_layers {x1 : Int} {x2 : Int} {G : Gt} {D : Dt} {c : Ct} : Fp S_X21_layers D (fun o => o.2.1) (q_X21_layers x1 x2 G D c) := by
  unfold q_X21_layers
  refine fp_let ?_
  refine fp_ite ?_ ?_
  · skip
    exact Fp.tr Fr.rf (fr_X21_layers_24)
  · skip
    refine fp_let ?_
    refine fp_ite ?_ ?_
    · skip
      exact Fp.tr Fr.rf (fr_X21_layers_24)
    · skip
      exact Fp.tr Fr.rf (fr_X21_layers_25)
def S_X21_clear : List Nat := [2106, 2111]
theorem fr_X21_clear {G : Gt} {D : Dt} : Fr S_X21_clear D ((fun o => o) (q_X21_clear G D)) := by
  have h : Fp S_X21_clear D (fun o => o) (some (q_X21_clear G D)) := by
    unfold q_X21_clear
    refine fp_sw (Fr.I Fr.rf rfl) fun _ H1 => ?_
    refine fp_sw (Fr.I H1 rfl) fun _ H2 => ?_
    exact fp_ret H2
  exact h _ rfl
def S_X22_set : List Nat := [2200, 2201, 2202, 2203, 2204, 2205]
theorem fr_X22_set {a0 : Nat} {x1 : Int} {x2 : Int} {x3 : Int} {x4 : Int} {x5 : Int} {x6 : Int} {G : Gt} {D : Dt} : Fr S_X22_set D ((fun o => o) (q_X22_set a0 x1 x2 x3 x4 x5 x6 G D)) := by
  have h : Fp S_X22_set D (fun o => o) (some (q_X22_set a0 x1 x2 x3 x4 x5 x6 G D)) := by
    unfold q_X22_set
    refine fp_sw (Fr.I Fr.rf rfl) fun _ H1 => ?_
    refine fp_sw (Fr.I H1 rfl) fun _ H2 => ?_
    refine fp_sw (Fr.I H2 rfl) fun _ H3 => ?_
    refine fp_sw (Fr.I H3 rfl) fun _ H4 => ?_
    refine fp_sw (Fr.I H4 rfl) fun _ H5 => ?_
    refine fp_sw (Fr.I H5 rfl) fun _ H6 => ?_
    exact fp_ret H6
  exact h _ rfl
def S_X21_change : List Nat := [2105, 2106, 2111, 2200, 2201, 2202, 2203, 2204, 2205]
def S_X21_change_120 : List Nat := [2106, 2111, 2200, 2201, 2202, 2203, 2204, 2205]
theorem fr_X21_change_120 {x1 : Int} {x2 : Int} {x3 : Int} {x4 : Int} {x5 : Int} {x6 : Int} {G : Gt} {D : Dt} {c : Ct} : Fp S_X21_change_120 D (fun o => o.2.1) (q_X21_change_120 x1 x2 x3 x4 x5 x6 G D c) := by
  unfold q_X21_change_120
  refine fp_bnd fun _ => ?_
  refine fp_bnd fun _ => ?_
  refine fp_l (g := (fun o => o)) fr_X22_set rfl Fr.rf fun _ H1 => ?_
  refine fp_gd ?_
  refine fp_let ?_
  refine fp_w (Fr.I H1 rfl) fun _ H2 => ?_
  refine fp_w (Fr.I H2 rfl) fun _ H3 => ?_
  exact fp_ret H3
theorem fr_X21_change_89 {x1 : Int} {x2 : Int} {x3 : Int} {x4 : Int} {x5 : Int} {x6 : Int} {ts0 : Int} {G : Gt} {D : Dt} {c : Ct} : Fp S_X21_change_120 D (fun o => o.2.1) (q_X21_change_89 x1 x2 x3 x4 x5 x6 ts0 G D c) := by
  unfold q_X21_change_89
  refine fp_u fr_X21_must rfl Fr.rf fun _ _ H1 => ?_
  refine fp_bnd fun _ => ?_
  refine fp_ite ?_ ?_
  · skip
    refine fp_let ?_
    refine fp_b fr_mk0 rfl H1 fun _ H2 => ?_
    refine fp_bnd fun _ => ?_
    exact Fp.tr H2 (fr_X21_change_120)
  · skip
    exact Fp.tr H1 (fr_X21_change_120)
theorem fr_X21_change_72 {x1 : Int} {x2 : Int} {x3 : Int} {x4 : Int} {x5 : Int} {x6 : Int} {ts0 : Int} {G : Gt} {D : Dt} {c : Ct} : Fp S_X21_change_120 D (fun o => o.2.1) (q_X21_change_72 x1 x2 x3 x4 x5 x6 ts0 G D c) := by
  unfold q_X21_change_72
  refine fp_u fr_X21_need rfl Fr.rf fun _ _ H1 => ?_
  exact Fp.tr H1 (fr_X21_change_89)
theorem fr_X21_change_71 {x1 : Int} {x2 : Int} {x3 : Int} {x4 : Int} {x5 : Int} {x6 : Int} {G : Gt} {D : Dt} {c : Ct} : Fp S_X21_change_120 D (fun o => o.2.1) (q_X21_change_71 x1 x2 x3 x4 x5 x6 G D c) := by
  unfold q_X21_change_71
  exact Fp.tr Fr.rf (fr_X21_change_72)
theorem fr_X21_change {x1 : Int} {x2 : Int} {x3 : Int} {x4 : Int} {x5 : Int} {x6 : Int} {G : Gt} {D : Dt} {c : Ct} : Fp S_X21_change D (fun o => o.2.1) (q_X21_change x1 x2 x3 x4 x5 x6 G D c) := by
  unfold q_X21_change
  refine fp_let ?_
  refine fp_ite ?_ ?_
  · skip
    exact Fp.tr Fr.rf (Fp.mo (fr_X21_change_71) rfl)
  · skip
    refine fp_gd ?_
    refine fp_let ?_
    refine fp_ite ?_ ?_
    · skip
      exact Fp.tr Fr.rf (Fp.mo (fr_X21_change_71) rfl)
    · skip
      refine fp_let ?_
      refine fp_ite ?_ ?_
      · skip
        exact Fp.tr Fr.rf (Fp.mo (fr_X21_change_71) rfl)
      · skip
        refine fp_gd ?_
        refine fp_let ?_
        refine fp_ite ?_ ?_
        · skip
          exact Fp.tr Fr.rf (Fp.mo (fr_X21_change_71) rfl)
        · skip
          refine fp_let ?_
          refine fp_ite ?_ ?_
          · skip
            exact Fp.tr Fr.rf (Fp.mo (fr_X21_change_71) rfl)
          · skip
            refine fp_let ?_
            refine fp_ite ?_ ?_
            · skip
              exact Fp.tr Fr.rf (Fp.mo (fr_X21_change_71) rfl)
            · skip
              exact Fp.tr Fr.rf (Fp.mo (fr_X21_change_72) rfl)
def S_X23_stream : List Nat := [2301, 2302, 7400, 7500, 7600]
def S_X23_stream_67 : List Nat := []
def S_X23_stream_30 : List Nat := [7600]
theorem fr_X23_stream_67 {N : Nat} {x4 : Int} {G : Gt} {D : Dt} {c : Ct} : Fp S_X23_stream_67 D (fun o => o.2.1) (q_X23_stream_67 N x4 G D c) := by
  unfold q_X23_stream_67
  refine fp_bnd fun _ => ?_
  exact fp_ret Fr.rf
theorem fr_X23_stream_30 {N : Nat} {x1 : Int} {r2 : Nat} {x3 : Int} {x4 : Int} {G : Gt} {D : Dt} {c : Ct} : Fp S_X23_stream_30 D (fun o => o.2.1) (q_X23_stream_30 N x1 r2 x3 x4 G D c) := by
  unfold q_X23_stream_30
  refine fp_bnd fun _ => ?_
  refine fp_ite ?_ ?_
  · skip
    refine fp_let ?_
    refine fp_bnd fun _ => ?_
    refine fp_bnd fun _ => ?_
    refine fp_bnd fun _ => ?_
    refine fp_b fr_mk76 rfl Fr.rf fun _ H1 => ?_
    refine fp_bnd fun _ => ?_
    exact Fp.tr H1 (Fp.mo (fr_X23_stream_67) rfl)
  · skip
    exact Fp.tr Fr.rf (Fp.mo (fr_X23_stream_67) rfl)
theorem fr_X23_stream {N : Nat} {x1 : Int} {r2 : Nat} {x3 : Int} {G : Gt} {D : Dt} {c : Ct} : Fp S_X23_stream D (fun o => o.2.1) (q_X23_stream N x1 r2 x3 G D c) := by
  unfold q_X23_stream
  refine fp_gd ?_
  refine fp_gd ?_
  refine fp_let ?_
  refine fp_bnd fun _ => ?_
  refine fp_ite ?_ ?_
  · skip
    refine fp_let ?_
    refine fp_b fr_mk73 rfl Fr.rf fun _ H1 => ?_
    refine fp_bnd fun _ => ?_
    exact Fp.tr H1 (Fp.mo (fr_X23_stream_30) rfl)
  · skip
    exact Fp.tr Fr.rf (Fp.mo (fr_X23_stream_30) rfl)
def S_X24_divide : List Nat := [2400, 2401, 2402, 2403]
theorem fr_X24_divide {a0 : Nat} {r1 : Nat} {x2 : Int} {x4 : Int} {x6 : Int} {x8 : Int} {G : Gt} {D : Dt} : Fp S_X24_divide D (fun o => o) (q_X24_divide a0 r1 x2 x4 x6 x8 G D) := by
  unfold q_X24_divide
  refine fp_gd ?_
  refine fp_bnd fun _ => ?_
  refine fp_gd ?_
  refine fp_bnd fun _ => ?_
  refine fp_gd ?_
  refine fp_bnd fun _ => ?_
  refine fp_gd ?_
  refine fp_bnd fun _ => ?_
  refine fp_l (g := (fun o => o)) fr_X24_set rfl Fr.rf fun _ H1 => ?_
  exact fp_ret H1
def S_X75_lay : List Nat := [2400, 2401, 2402, 2403, 7502, 7503, 7504, 7505]
theorem fr_X75_lay_37 {a0 : Nat} {r1 : Nat} {a2 : Nat} {x3 : Int} {x4 : Int} {x5 : Int} {ts0 : Int} {G : Gt} {D : Dt} : Fp S_X75_lay D (fun o => o) (q_X75_lay_37 a0 r1 a2 x3 x4 x5 ts0 G D) := by
  unfold q_X75_lay_37
  refine fp_let ?_
  refine fp_gd ?_
  refine fp_let ?_
  refine fp_gd ?_
  refine fp_gd ?_
  refine fp_b fr_X24_divide rfl Fr.rf fun _ H1 => ?_
  refine fp_bnd fun _ => ?_
  refine fp_gd ?_
  refine fp_let ?_
  refine fp_w (Fr.I H1 rfl) fun _ H2 => ?_
  refine fp_bnd fun _ => ?_
  refine fp_gd ?_
  refine fp_let ?_
  refine fp_w (Fr.I H2 rfl) fun _ H3 => ?_
  refine fp_let ?_
  refine fp_w (Fr.I H3 rfl) fun _ H4 => ?_
  refine fp_let ?_
  refine fp_w (Fr.I H4 rfl) fun _ H5 => ?_
  exact fp_ret H5
theorem fr_X75_lay_9 {a0 : Nat} {r1 : Nat} {r2 : Nat} {x3 : Int} {ts0 : Int} {G : Gt} {D : Dt} : Fp S_X75_lay D (fun o => o) (q_X75_lay_9 a0 r1 r2 x3 ts0 G D) := by
  unfold q_X75_lay_9
  refine fp_gd ?_
  refine fp_gd ?_
  refine fp_let ?_
  refine fp_ite ?_ ?_
  · skip
    exact Fp.tr Fr.rf (fr_X75_lay_37)
  · skip
    refine fp_gd ?_
    refine fp_gd ?_
    exact Fp.tr Fr.rf (fr_X75_lay_37)
theorem fr_X75_lay {a0 : Nat} {r1 : Nat} {r2 : Nat} {x3 : Int} {G : Gt} {D : Dt} : Fp S_X75_lay D (fun o => o) (q_X75_lay a0 r1 r2 x3 G D) := by
  unfold q_X75_lay
  exact Fp.tr Fr.rf (fr_X75_lay_9)
def S_X74_lay : List Nat := [2400, 2401, 2402, 2403, 7403, 7404, 7405, 7406, 7502, 7503, 7504, 7505]
def S_X74_lay_94 : List Nat := [2400, 2401, 2402, 2403, 7502, 7503, 7504, 7505]
theorem fr_X74_lay_94 {N : Nat} (n : Nat) : ∀ {a0 : Nat} {r1 : Nat} {a2 : Nat} {a5 : Nat} {x6 : Int} {x7 : Int} {G : Gt} {D : Dt}, Fp S_X74_lay_94 D (fun o => o) (q_X74_lay_94 N n a0 r1 a2 a5 x6 x7 G D) := by
  induction n with
  | zero =>
    intros; exact fp_no
  | succ n ih =>
    intro a0 r1 a2 a5 x6 x7 G D
    show Fp _ _ _ (q_X74_lay_94 N (n + 1) a0 r1 a2 a5 x6 x7 G D)
    rw [q_X74_lay_94]
    refine fp_ite ?_ ?_
    · skip
      exact fp_ret Fr.rf
    · skip
      refine fp_bnd fun _ => ?_
      refine fp_b fr_X75_lay rfl Fr.rf fun _ H1 => ?_
      refine fp_gd ?_
      refine fp_let ?_
      exact Fp.tr H1 ih
theorem fr_X74_lay {N : Nat} {a0 : Nat} {r1 : Nat} {r2 : Nat} {G : Gt} {D : Dt} : Fp S_X74_lay D (fun o => o) (q_X74_lay N a0 r1 r2 G D) := by
  unfold q_X74_lay
  refine fp_gd ?_
  refine fp_gd ?_
  refine fp_let ?_
  refine fp_b fr_X24_divide rfl Fr.rf fun _ H1 => ?_
  refine fp_bnd fun _ => ?_
  refine fp_w (Fr.I H1 rfl) fun _ H2 => ?_
  refine fp_bnd fun _ => ?_
  refine fp_w (Fr.I H2 rfl) fun _ H3 => ?_
  refine fp_bnd fun _ => ?_
  refine fp_w (Fr.I H3 rfl) fun _ H4 => ?_
  refine fp_bnd fun _ => ?_
  refine fp_w (Fr.I H4 rfl) fun _ H5 => ?_
  refine fp_let ?_
  exact Fp.tr H5 (Fp.mo (fr_X74_lay_94 _) rfl)
def S_X73_lay : List Nat := [2400, 2401, 2402, 2403, 7302, 7403, 7404, 7405, 7406, 7502, 7503, 7504, 7505]
def S_X73_lay_30 : List Nat := [2400, 2401, 2402, 2403, 7403, 7404, 7405, 7406, 7502, 7503, 7504, 7505]
theorem fr_X73_lay_30 {N : Nat} (n : Nat) : ∀ {a0 : Nat} {a2 : Nat} {x3 : Int} {G : Gt} {D : Dt}, Fp S_X73_lay_30 D (fun o => o) (q_X73_lay_30 N n a0 a2 x3 G D) := by
  induction n with
  | zero =>
    intros; exact fp_no
  | succ n ih =>
    intro a0 a2 x3 G D
    show Fp _ _ _ (q_X73_lay_30 N (n + 1) a0 a2 x3 G D)
    rw [q_X73_lay_30]
    refine fp_ite ?_ ?_
    · skip
      exact fp_ret Fr.rf
    · skip
      refine fp_bnd fun _ => ?_
      refine fp_b fr_X74_lay rfl Fr.rf fun _ H1 => ?_
      refine fp_gd ?_
      refine fp_let ?_
      exact Fp.tr H1 ih
theorem fr_X73_lay {N : Nat} {a0 : Nat} {r1 : Nat} {r2 : Nat} {G : Gt} {D : Dt} : Fp S_X73_lay D (fun o => o) (q_X73_lay N a0 r1 r2 G D) := by
  unfold q_X73_lay
  refine fp_let ?_
  refine fp_w (Fr.I Fr.rf rfl) fun _ H1 => ?_
  refine fp_b fr_X24_divide rfl H1 fun _ H2 => ?_
  exact Fp.tr H2 (Fp.mo (fr_X73_lay_30 _) rfl)
def S_X23_lay : List Nat := [2301, 2302, 2303, 2304, 2305, 2400, 2401, 2402, 2403, 7302, 7400, 7403, 7404, 7405, 7406, 7500, 7502, 7503, 7504, 7505, 7600, 7603]
def S_X23_lay_117 : List Nat := [2301, 2302, 2304, 2305, 2400, 2401, 2402, 2403, 7302, 7400, 7403, 7404, 7405, 7406, 7500, 7502, 7503, 7504, 7505, 7600, 7603]
def S_X23_lay_150 : List Nat := [2305]
theorem fr_X23_lay_117 {N : Nat} {k15 : Nat → Int → Int → Int → Gt → Dt → Ct → Option (Int × (Dt × Gt × Ct))} (h15 : ∀ {r1 : Nat} {x2 : Int} {x3 : Int} {x4 : Int} {G : Gt} {D : Dt} {c : Ct}, Fp S_X23_lay_117 D (fun o => o.2.1) (k15 r1 x2 x3 x4 G D c)) {k54 : Nat → Int → Int → Int → Int → Gt → Dt → Ct → Option (Int × (Dt × Gt × Ct))} (h54 : ∀ {a1 : Nat} {x2 : Int} {x3 : Int} {x4 : Int} {x5 : Int} {G : Gt} {D : Dt} {c : Ct}, Fp S_X23_lay_117 D (fun o => o.2.1) (k54 a1 x2 x3 x4 x5 G D c)) {a1 : Nat} {x2 : Int} {x4 : Int} {x5 : Int} {a6 : Nat} {ts0 : Int} {G : Gt} {D : Dt} {c : Ct} : Fp S_X23_lay_117 D (fun o => o.2.1) (q_X23_lay_117 N k15 k54 a1 x2 x4 x5 a6 ts0 G D c) := by
  unfold q_X23_lay_117
  refine fp_bnd fun _ => ?_
  refine fp_gd ?_
  refine fp_let ?_
  refine fp_w (Fr.I Fr.rf rfl) fun _ H1 => ?_
  refine fp_gd ?_
  refine fp_let ?_
  exact Fp.tr H1 h54
theorem fr_X23_lay_54 {N : Nat} {k15 : Nat → Int → Int → Int → Gt → Dt → Ct → Option (Int × (Dt × Gt × Ct))} (h15 : ∀ {r1 : Nat} {x2 : Int} {x3 : Int} {x4 : Int} {G : Gt} {D : Dt} {c : Ct}, Fp S_X23_lay_117 D (fun o => o.2.1) (k15 r1 x2 x3 x4 G D c)) (n : Nat) : ∀ {a1 : Nat} {x2 : Int} {x3 : Int} {x4 : Int} {x5 : Int} {G : Gt} {D : Dt} {c : Ct}, Fp S_X23_lay_117 D (fun o => o.2.1) (q_X23_lay_54 N k15 n a1 x2 x3 x4 x5 G D c) := by
  induction n with
  | zero =>
    intros; exact fp_no
  | succ n ih =>
    intro a1 x2 x3 x4 x5 G D c
    show Fp _ _ _ (q_X23_lay_54 N k15 (n + 1) a1 x2 x3 x4 x5 G D c)
    rw [q_X23_lay_54]
    refine fp_bnd fun _ => ?_
    refine fp_bnd fun _ => ?_
    refine fp_ite ?_ ?_
    · skip
      refine fp_gd ?_
      refine fp_let ?_
      exact Fp.tr Fr.rf h15
    · skip
      refine fp_ite ?_ ?_
      · skip
        refine fp_gd ?_
        refine fp_let ?_
        exact Fp.tr Fr.rf h15
      · skip
        refine fp_bnd fun _ => ?_
        refine fp_bnd fun _ => ?_
        refine fp_b2 fr_X23_stream rfl Fr.rf fun _ _ H1 => ?_
        refine fp_bnd fun _ => ?_
        refine fp_let ?_
        refine fp_w (Fr.I H1 rfl) fun _ H2 => ?_
        refine fp_bnd fun _ => ?_
        refine fp_gd ?_
        exact Fp.tr H2 (fr_X23_lay_117 h15 ih)
theorem fr_X23_lay_150 {N : Nat} (n : Nat) : ∀ {x3 : Int} {x4 : Int} {G : Gt} {D : Dt} {c : Ct}, Fp S_X23_lay_150 D (fun o => o.2.1) (q_X23_lay_150 N n x3 x4 G D c) := by
  induction n with
  | zero =>
    intros; exact fp_no
  | succ n ih =>
    intro x3 x4 G D c
    show Fp _ _ _ (q_X23_lay_150 N (n + 1) x3 x4 G D c)
    rw [q_X23_lay_150]
    refine fp_ite ?_ ?_
    · skip
      refine fp_gd ?_
      exact fp_ret Fr.rf
    · skip
      refine fp_tA rfl Fr.rf fun _ H1 => ?_
      refine fp_gd ?_
      refine fp_let ?_
      exact Fp.tr H1 ih
theorem fr_X23_lay_15 {N : Nat} (n : Nat) : ∀ {r1 : Nat} {x2 : Int} {x3 : Int} {x4 : Int} {G : Gt} {D : Dt} {c : Ct}, Fp S_X23_lay_117 D (fun o => o.2.1) (q_X23_lay_15 N n r1 x2 x3 x4 G D c) := by
  induction n with
  | zero =>
    intros; exact fp_no
  | succ n ih =>
    intro r1 x2 x3 x4 G D c
    show Fp _ _ _ (q_X23_lay_15 N (n + 1) r1 x2 x3 x4 G D c)
    rw [q_X23_lay_15]
    refine fp_ite ?_ ?_
    · skip
      exact Fp.tr Fr.rf (Fp.mo (fr_X23_lay_150 _) rfl)
    · skip
      refine fp_bnd fun _ => ?_
      refine fp_bnd fun _ => ?_
      refine fp_b2 fr_X23_stream rfl Fr.rf fun _ _ H1 => ?_
      refine fp_bnd fun _ => ?_
      refine fp_bnd fun _ => ?_
      refine fp_bnd fun _ => ?_
      refine fp_bnd fun _ => ?_
      refine fp_b fr_X73_lay rfl H1 fun _ H2 => ?_
      exact Fp.tr H2 (fr_X23_lay_54 ih _)
theorem fr_X23_lay {N : Nat} {r1 : Nat} {x2 : Int} {G : Gt} {D : Dt} {c : Ct} : Fp S_X23_lay D (fun o => o.2.1) (q_X23_lay N r1 x2 G D c) := by
  unfold q_X23_lay
  refine fp_w (Fr.I Fr.rf rfl) fun _ H1 => ?_
  refine fp_w (Fr.I H1 rfl) fun _ H2 => ?_
  exact Fp.tr H2 (Fp.mo (fr_X23_lay_15 _) rfl)
def S_X21_begin : List Nat := [2111, 2112, 2113, 2200, 2201, 2202, 2203, 2204, 2205, 2301, 2302, 2303, 2304, 2305, 2400, 2401, 2402, 2403, 2503, 7302, 7400, 7403, 7404, 7405, 7406, 7500, 7502, 7503, 7504, 7505, 7600, 7603]
theorem fr_X21_begin_25 {N : Nat} {ts0 : Int} {G : Gt} {D : Dt} {c : Ct} : Fp S_X21_begin D (fun o => o.2.1) (q_X21_begin_25 N ts0 G D c) := by
  unfold q_X21_begin_25
  refine fp_u fr_X21_must rfl Fr.rf fun _ _ H1 => ?_
  refine fp_w (Fr.I H1 rfl) fun _ H2 => ?_
  refine fp_b2 fr_X23_lay rfl H2 fun _ _ H3 => ?_
  refine fp_ite ?_ ?_
  · skip
    exact fp_ret H3
  · skip
    refine fp_w (Fr.I H3 rfl) fun _ H4 => ?_
    refine fp_w (Fr.R H4 rfl) fun _ H5 => ?_
    refine fp_w (Fr.I H5 rfl) fun _ H6 => ?_
    refine fp_w (Fr.R H6 rfl) fun _ H7 => ?_
    refine fp_l (g := (fun o => o)) fr_X22_set rfl H7 fun _ H8 => ?_
    refine fp_gd ?_
    exact fp_ret H8
theorem fr_X21_begin_24 {N : Nat} {G : Gt} {D : Dt} {c : Ct} : Fp S_X21_begin D (fun o => o.2.1) (q_X21_begin_24 N G D c) := by
  unfold q_X21_begin_24
  exact Fp.tr Fr.rf (fr_X21_begin_25)
theorem fr_X21_begin {N : Nat} {G : Gt} {D : Dt} {c : Ct} : Fp S_X21_begin D (fun o => o.2.1) (q_X21_begin N G D c) := by
  unfold q_X21_begin
  refine fp_let ?_
  refine fp_ite ?_ ?_
  · skip
    refine fp_ite ?_ ?_
    · skip
      exact Fp.tr Fr.rf (fr_X21_begin_24)
    · skip
      exact Fp.tr Fr.rf (fr_X21_begin_25)
  · skip
    exact Fp.tr Fr.rf (fr_X21_begin_24)
def S_X26_take : List Nat := [2305, 2500, 2501, 2503]
theorem fr_X26_take {a0 : Nat} {r1 : Nat} {x2 : Int} {x3 : Int} {G : Gt} {D : Dt} : Fp S_X26_take D (fun o => o.2) (q_X26_take a0 r1 x2 x3 G D) := by
  unfold q_X26_take
  refine fp_gd ?_
  refine fp_let ?_
  refine fp_bnd fun _ => ?_
  refine fp_bnd fun _ => ?_
  refine fp_ite ?_ ?_
  · skip
    refine fp_bnd fun _ => ?_
    refine fp_bnd fun _ => ?_
    refine fp_gd ?_
    refine fp_tA rfl Fr.rf fun _ H1 => ?_
    refine fp_w (Fr.R H1 rfl) fun _ H2 => ?_
    refine fp_w (Fr.I H2 rfl) fun _ H3 => ?_
    refine fp_w (Fr.I H3 rfl) fun _ H4 => ?_
    exact fp_ret H4
  · skip
    exact fp_ret Fr.rf
def S_X27_turn : List Nat := [2603, 2704, 2705, 2706]
def S_X27_turn_144 : List Nat := []
def S_X27_turn_111 : List Nat := [2603, 2704]
theorem fr_X27_turn_144 {G : Gt} {D : Dt} : Fp S_X27_turn_144 D (fun o => o.2) (q_X27_turn_144 G D) := by
  unfold q_X27_turn_144
  refine fp_bnd fun _ => ?_
  refine fp_ite ?_ ?_
  · skip
    exact fp_ret Fr.rf
  · skip
    refine fp_bnd fun _ => ?_
    refine fp_ite ?_ ?_
    · skip
      exact fp_ret Fr.rf
    · skip
      exact fp_ret Fr.rf
theorem fr_X27_turn_111 {x1 : Int} {G : Gt} {D : Dt} : Fp S_X27_turn_111 D (fun o => o.2) (q_X27_turn_111 x1 G D) := by
  unfold q_X27_turn_111
  refine fp_ite ?_ ?_
  · skip
    refine fp_bnd fun _ => ?_
    refine fp_ite ?_ ?_
    · skip
      refine fp_w (Fr.I Fr.rf rfl) fun _ H1 => ?_
      refine fp_gd ?_
      refine fp_let ?_
      refine fp_w (Fr.I H1 rfl) fun _ H2 => ?_
      exact Fp.tr H2 (Fp.mo (fr_X27_turn_144) rfl)
    · skip
      exact Fp.tr Fr.rf (Fp.mo (fr_X27_turn_144) rfl)
  · skip
    exact Fp.tr Fr.rf (Fp.mo (fr_X27_turn_144) rfl)
theorem fr_X27_turn_69 {x1 : Int} {G : Gt} {D : Dt} : Fp S_X27_turn_111 D (fun o => o.2) (q_X27_turn_69 x1 G D) := by
  unfold q_X27_turn_69
  refine fp_ite ?_ ?_
  · skip
    exact Fp.tr Fr.rf (fr_X27_turn_111)
  · skip
    refine fp_bnd fun _ => ?_
    refine fp_ite ?_ ?_
    · skip
      refine fp_bnd fun _ => ?_
      refine fp_let ?_
      refine fp_w (Fr.I Fr.rf rfl) fun _ H1 => ?_
      refine fp_gd ?_
      refine fp_let ?_
      refine fp_w (Fr.I H1 rfl) fun _ H2 => ?_
      exact Fp.tr H2 (Fp.mo (fr_X27_turn_144) rfl)
    · skip
      exact Fp.tr Fr.rf (fr_X27_turn_111)
theorem fr_X27_turn {x1 : Int} {G : Gt} {D : Dt} : Fp S_X27_turn D (fun o => o.2) (q_X27_turn x1 G D) := by
  unfold q_X27_turn
  refine fp_w (Fr.I Fr.rf rfl) fun _ H1 => ?_
  refine fp_gd ?_
  refine fp_let ?_
  refine fp_w (Fr.I H1 rfl) fun _ H2 => ?_
  refine fp_bnd fun _ => ?_
  refine fp_ite ?_ ?_
  · skip
    refine fp_bnd fun _ => ?_
    refine fp_let ?_
    refine fp_w (Fr.I H2 rfl) fun _ H3 => ?_
    refine fp_ite ?_ ?_
    · skip
      refine fp_gd ?_
      refine fp_let ?_
      refine fp_w (Fr.I H3 rfl) fun _ H4 => ?_
      exact Fp.tr H4 (Fp.mo (fr_X27_turn_69) rfl)
    · skip
      refine fp_gd ?_
      refine fp_let ?_
      refine fp_w (Fr.I H3 rfl) fun _ H5 => ?_
      exact Fp.tr H5 (Fp.mo (fr_X27_turn_69) rfl)
  · skip
    exact fp_ret H2
def S_X27_next : List Nat := [2305, 2500, 2501, 2503, 2603, 2704, 2705, 2706]
theorem fr_X27_next_110 {N : Nat} {k30 : Gt → Dt → Option (Int × Dt)} (h30 : ∀ {G : Gt} {D : Dt}, Fp S_X27_next D (fun o => o.2) (k30 G D)) {ts0 : Int} {G : Gt} {D : Dt} : Fp S_X27_next D (fun o => o.2) (q_X27_next_110 N k30 ts0 G D) := by
  unfold q_X27_next_110
  refine fp_b2 fr_X27_turn rfl Fr.rf fun _ _ H1 => ?_
  refine fp_ite ?_ ?_
  · skip
    exact fp_ret H1
  · skip
    exact Fp.tr H1 h30
theorem fr_X27_next_94 {N : Nat} {k30 : Gt → Dt → Option (Int × Dt)} (h30 : ∀ {G : Gt} {D : Dt}, Fp S_X27_next D (fun o => o.2) (k30 G D)) {G : Gt} {D : Dt} : Fp S_X27_next D (fun o => o.2) (q_X27_next_94 N k30 G D) := by
  unfold q_X27_next_94
  refine fp_bnd fun _ => ?_
  exact Fp.tr Fr.rf (fr_X27_next_110 h30)
theorem fr_X27_next_46 {N : Nat} {k30 : Gt → Dt → Option (Int × Dt)} (h30 : ∀ {G : Gt} {D : Dt}, Fp S_X27_next D (fun o => o.2) (k30 G D)) (n : Nat) : ∀ {r1 : Option Nat} {G : Gt} {D : Dt}, Fp S_X27_next D (fun o => o.2) (q_X27_next_46 N k30 n r1 G D) := by
  induction n with
  | zero =>
    intros; exact fp_no
  | succ n ih =>
    intro r1 G D
    show Fp _ _ _ (q_X27_next_46 N k30 (n + 1) r1 G D)
    rw [q_X27_next_46]
    refine fp_ite ?_ ?_
    · skip
      exact Fp.tr Fr.rf (fr_X27_next_94 h30)
    · skip
      refine fp_bnd fun _ => ?_
      refine fp_bnd fun _ => ?_
      refine fp_ite ?_ ?_
      · skip
        exact Fp.tr Fr.rf (fr_X27_next_94 h30)
      · skip
        refine fp_gd ?_
        refine fp_let ?_
        refine fp_w (Fr.I Fr.rf rfl) fun _ H1 => ?_
        refine fp_gd ?_
        refine fp_b2 fr_X26_take rfl H1 fun _ _ H2 => ?_
        refine fp_ite ?_ ?_
        · skip
          exact Fp.tr H2 ih
        · skip
          exact fp_ret H2
theorem fr_X27_next_30 {N : Nat} (n : Nat) : ∀ {G : Gt} {D : Dt}, Fp S_X27_next D (fun o => o.2) (q_X27_next_30 N n G D) := by
  induction n with
  | zero =>
    intros; exact fp_no
  | succ n ih =>
    intro G D
    show Fp _ _ _ (q_X27_next_30 N (n + 1) G D)
    rw [q_X27_next_30]
    refine fp_bnd fun _ => ?_
    refine fp_bnd fun _ => ?_
    exact Fp.tr Fr.rf (fr_X27_next_46 ih _)
theorem fr_X27_next {N : Nat} {G : Gt} {D : Dt} : Fp S_X27_next D (fun o => o.2) (q_X27_next N G D) := by
  unfold q_X27_next
  refine fp_bnd fun _ => ?_
  refine fp_ite ?_ ?_
  · skip
    exact fp_ret Fr.rf
  · skip
    refine fp_bnd fun _ => ?_
    refine fp_ite ?_ ?_
    · skip
      exact Fp.tr Fr.rf (fr_X27_next_30 _)
    · skip
      exact fp_ret Fr.rf
def S_X28_layers : List Nat := [2305, 2500, 2501, 2503, 2603]
theorem fr_X28_layers_0 {N : Nat} (n : Nat) : ∀ {G : Gt} {D : Dt}, Fp S_X28_layers D (fun o => o.2) (q_X28_layers_0 N n G D) := by
  induction n with
  | zero =>
    intros; exact fp_no
  | succ n ih =>
    intro G D
    show Fp _ _ _ (q_X28_layers_0 N (n + 1) G D)
    rw [q_X28_layers_0]
    refine fp_ite ?_ ?_
    · skip
      exact fp_ret Fr.rf
    · skip
      refine fp_bnd fun _ => ?_
      refine fp_ite ?_ ?_
      · skip
        exact fp_ret Fr.rf
      · skip
        refine fp_gd ?_
        refine fp_let ?_
        refine fp_w (Fr.I Fr.rf rfl) fun _ H1 => ?_
        refine fp_bnd fun _ => ?_
        refine fp_gd ?_
        refine fp_b2 fr_X26_take rfl H1 fun _ _ H2 => ?_
        refine fp_ite ?_ ?_
        · skip
          exact Fp.tr H2 ih
        · skip
          exact fp_ret H2
theorem fr_X28_layers {N : Nat} {G : Gt} {D : Dt} : Fp S_X28_layers D (fun o => o.2) (q_X28_layers N G D) := by
  unfold q_X28_layers
  exact Fp.tr Fr.rf (fr_X28_layers_0 _)
def S_X28_next : List Nat := [2305, 2500, 2501, 2503, 2603, 2804, 2805, 7604]
theorem fr_X28_next_40 {N : Nat} {k0 : Gt → Dt → Option (Int × Dt)} (h0 : ∀ {G : Gt} {D : Dt}, Fp S_X28_next D (fun o => o.2) (k0 G D)) {G : Gt} {D : Dt} : Fp S_X28_next D (fun o => o.2) (q_X28_next_40 N k0 G D) := by
  unfold q_X28_next_40
  refine fp_bnd fun _ => ?_
  refine fp_w (Fr.R Fr.rf rfl) fun _ H1 => ?_
  refine fp_w (Fr.I H1 rfl) fun _ H2 => ?_
  refine fp_ite ?_ ?_
  · skip
    refine fp_gd ?_
    refine fp_let ?_
    refine fp_w (Fr.I H2 rfl) fun _ H3 => ?_
    exact Fp.tr H3 h0
  · skip
    exact Fp.tr H2 h0
theorem fr_X28_next_0 {N : Nat} (n : Nat) : ∀ {G : Gt} {D : Dt}, Fp S_X28_next D (fun o => o.2) (q_X28_next_0 N n G D) := by
  induction n with
  | zero =>
    intros; exact fp_no
  | succ n ih =>
    intro G D
    show Fp _ _ _ (q_X28_next_0 N (n + 1) G D)
    rw [q_X28_next_0]
    refine fp_ite ?_ ?_
    · skip
      exact fp_ret Fr.rf
    · skip
      refine fp_b2 fr_X28_layers rfl Fr.rf fun _ _ H1 => ?_
      refine fp_ite ?_ ?_
      · skip
        refine fp_ite ?_ ?_
        · skip
          exact Fp.tr H1 (fr_X28_next_40 ih)
        · skip
          refine fp_let ?_
          refine fp_bnd fun _ => ?_
          refine fp_gd ?_
          refine fp_let ?_
          refine fp_w (Fr.I H1 rfl) fun _ H2 => ?_
          exact Fp.tr H2 (fr_X28_next_40 ih)
      · skip
        exact fp_ret H1
theorem fr_X28_next {N : Nat} {G : Gt} {D : Dt} : Fp S_X28_next D (fun o => o.2) (q_X28_next N G D) := by
  unfold q_X28_next
  exact Fp.tr Fr.rf (fr_X28_next_0 _)
def S_X23_rewind : List Nat := [7604]
theorem fr_X23_rewind_12 {N : Nat} {k2 : Int → Gt → Dt → Option Dt} (h2 : ∀ {x1 : Int} {G : Gt} {D : Dt}, Fp S_X23_rewind D (fun o => o) (k2 x1 G D)) (n : Nat) : ∀ {x1 : Int} {x2 : Int} {G : Gt} {D : Dt}, Fp S_X23_rewind D (fun o => o) (q_X23_rewind_12 N k2 n x1 x2 G D) := by
  induction n with
  | zero =>
    intros; exact fp_no
  | succ n ih =>
    intro x1 x2 G D
    show Fp _ _ _ (q_X23_rewind_12 N k2 (n + 1) x1 x2 G D)
    rw [q_X23_rewind_12]
    refine fp_bnd fun _ => ?_
    refine fp_bnd fun _ => ?_
    refine fp_ite ?_ ?_
    · skip
      refine fp_gd ?_
      refine fp_let ?_
      exact Fp.tr Fr.rf h2
    · skip
      refine fp_bnd fun _ => ?_
      refine fp_bnd fun _ => ?_
      refine fp_w (Fr.I Fr.rf rfl) fun _ H1 => ?_
      refine fp_gd ?_
      refine fp_let ?_
      exact Fp.tr H1 ih
theorem fr_X23_rewind_2 {N : Nat} (n : Nat) : ∀ {x1 : Int} {G : Gt} {D : Dt}, Fp S_X23_rewind D (fun o => o) (q_X23_rewind_2 N n x1 G D) := by
  induction n with
  | zero =>
    intros; exact fp_no
  | succ n ih =>
    intro x1 G D
    show Fp _ _ _ (q_X23_rewind_2 N (n + 1) x1 G D)
    rw [q_X23_rewind_2]
    refine fp_ite ?_ ?_
    · skip
      exact fp_ret Fr.rf
    · skip
      exact Fp.tr Fr.rf (fr_X23_rewind_12 ih _)
theorem fr_X23_rewind {N : Nat} {G : Gt} {D : Dt} : Fp S_X23_rewind D (fun o => o) (q_X23_rewind N G D) := by
  unfold q_X23_rewind
  exact Fp.tr Fr.rf (fr_X23_rewind_2 _)
def S_X26_begin : List Nat := [2600, 2601, 2603, 7604]
theorem fr_X26_begin {N : Nat} {a0 : Nat} {r2 : Nat} {G : Gt} {D : Dt} : Fp S_X26_begin D (fun o => o) (q_X26_begin N a0 r2 G D) := by
  unfold q_X26_begin
  refine fp_w (Fr.R Fr.rf rfl) fun _ H1 => ?_
  refine fp_w (Fr.R H1 rfl) fun _ H2 => ?_
  refine fp_b fr_X23_rewind rfl H2 fun _ H3 => ?_
  refine fp_w (Fr.I H3 rfl) fun _ H4 => ?_
  exact fp_ret H4
def S_X28_begin : List Nat := [2600, 2601, 2603, 2804, 2805, 2806, 7604]
def S_X28_begin_78 : List Nat := [2806]
def S_X28_begin_43 : List Nat := [2805, 2806]
theorem fr_X28_begin_78 {N : Nat} {ts0 : Int} {G : Gt} {D : Dt} : Fp S_X28_begin_78 D (fun o => o) (q_X28_begin_78 N ts0 G D) := by
  unfold q_X28_begin_78
  refine fp_w (Fr.I Fr.rf rfl) fun _ H1 => ?_
  exact fp_ret H1
theorem fr_X28_begin_43 {N : Nat} {a2 : Nat} {ts0 : Int} {G : Gt} {D : Dt} : Fp S_X28_begin_43 D (fun o => o) (q_X28_begin_43 N a2 ts0 G D) := by
  unfold q_X28_begin_43
  refine fp_w (Fr.I Fr.rf rfl) fun _ H1 => ?_
  exact Fp.tr H1 (Fp.mo (fr_X28_begin_78) rfl)
theorem fr_X28_begin {N : Nat} {r2 : Nat} {G : Gt} {D : Dt} : Fp S_X28_begin D (fun o => o) (q_X28_begin N r2 G D) := by
  unfold q_X28_begin
  refine fp_b fr_X26_begin rfl Fr.rf fun _ H1 => ?_
  refine fp_w (Fr.R H1 rfl) fun _ H2 => ?_
  exact Fp.tr H2 (Fp.mo (fr_X28_begin_43) rfl)
def S_X27_begin : List Nat := [2600, 2601, 2603, 2704, 2705, 2706, 7604]
theorem fr_X27_begin {N : Nat} {r2 : Nat} {G : Gt} {D : Dt} : Fp S_X27_begin D (fun o => o) (q_X27_begin N r2 G D) := by
  unfold q_X27_begin
  refine fp_b fr_X26_begin rfl Fr.rf fun _ H1 => ?_
  refine fp_let ?_
  refine fp_w (Fr.I H1 rfl) fun _ H2 => ?_
  refine fp_let ?_
  refine fp_w (Fr.I H2 rfl) fun _ H3 => ?_
  refine fp_w (Fr.I H3 rfl) fun _ H4 => ?_
  exact fp_ret H4
def Sv_PacketOrder_Walk_begin : List Nat := [2600, 2601, 2603, 2704, 2705, 2706, 2804, 2805, 2806, 7604]
theorem frv_PacketOrder_Walk_begin {N : Nat} {b : Nat} {x2 : Nat} {G : Gt} {D : Dt} : Fp Sv_PacketOrder_Walk_begin D (fun o => o) (qv_PacketOrder_Walk_begin N b x2 G D) := by
  unfold qv_PacketOrder_Walk_begin
  refine fp_ite ?_ ?_
  · exact fun o ho => (fr_X27_begin o ho).mo rfl
  refine fp_ite ?_ ?_
  · exact fun o ho => (fr_X28_begin o ho).mo rfl
  exact fp_no
def S_X21_turn : List Nat := [2112, 2113, 2200, 2201, 2202, 2203, 2204, 2205, 2600, 2601, 2603, 2704, 2705, 2706, 2804, 2805, 2806, 7604]
def S_X21_turn_132 : List Nat := [2600, 2601, 2603, 2704, 2705, 2706, 2804, 2805, 2806, 7604]
def S_X21_turn_82 : List Nat := [2113, 2200, 2201, 2202, 2203, 2204, 2205, 2600, 2601, 2603, 2704, 2705, 2706, 2804, 2805, 2806, 7604]
theorem fr_X21_turn_132 {N : Nat} {r2 : Nat} {G : Gt} {D : Dt} : Fp S_X21_turn_132 D (fun o => o.2) (q_X21_turn_132 N r2 G D) := by
  unfold q_X21_turn_132
  refine fp_bnd fun _ => ?_
  refine fp_b frv_PacketOrder_Walk_begin rfl Fr.rf fun _ H1 => ?_
  exact fp_ret H1
theorem fr_X21_turn_82 {N : Nat} {a2 : Nat} {us0 : Nat} {G : Gt} {D : Dt} : Fp S_X21_turn_82 D (fun o => o.2) (q_X21_turn_82 N a2 us0 G D) := by
  unfold q_X21_turn_82
  refine fp_w (Fr.R Fr.rf rfl) fun _ H1 => ?_
  refine fp_ite ?_ ?_
  · skip
    exact Fp.tr H1 (Fp.mo (fr_X21_turn_132) rfl)
  · skip
    refine fp_l (g := (fun o => o)) fr_X22_set rfl H1 fun _ H2 => ?_
    exact Fp.tr H2 (Fp.mo (fr_X21_turn_132) rfl)
theorem fr_X21_turn_61 {N : Nat} {us0 : Option Nat} {G : Gt} {D : Dt} : Fp S_X21_turn_82 D (fun o => o.2) (q_X21_turn_61 N us0 G D) := by
  unfold q_X21_turn_61
  refine fp_bnd fun _ => ?_
  refine fp_ite ?_ ?_
  · skip
    exact Fp.tr Fr.rf (fr_X21_turn_82)
  · skip
    exact Fp.tr Fr.rf (fr_X21_turn_82)
theorem fr_X21_turn_15 {N : Nat} {ts0 : Int} {G : Gt} {D : Dt} : Fp S_X21_turn D (fun o => o.2) (q_X21_turn_15 N ts0 G D) := by
  unfold q_X21_turn_15
  refine fp_gd ?_
  refine fp_ite ?_ ?_
  · skip
    refine fp_let ?_
    refine fp_w (Fr.I Fr.rf rfl) fun _ H1 => ?_
    refine fp_ite ?_ ?_
    · skip
      exact Fp.tr H1 (Fp.mo (fr_X21_turn_61) rfl)
    · skip
      refine fp_bnd fun _ => ?_
      exact Fp.tr H1 (Fp.mo (fr_X21_turn_61) rfl)
  · skip
    exact fp_ret Fr.rf
theorem fr_X21_turn {N : Nat} {G : Gt} {D : Dt} : Fp S_X21_turn D (fun o => o.2) (q_X21_turn N G D) := by
  unfold q_X21_turn
  exact Fp.tr Fr.rf (fr_X21_turn_15)
def Sv_PacketOrder_Walk_next : List Nat := [2305, 2500, 2501, 2503, 2603, 2704, 2705, 2706, 2804, 2805, 7604]
theorem frv_PacketOrder_Walk_next {N : Nat} {b : Nat} {G : Gt} {D : Dt} : Fp Sv_PacketOrder_Walk_next D (fun o => o.2) (qv_PacketOrder_Walk_next N b G D) := by
  unfold qv_PacketOrder_Walk_next
  refine fp_ite ?_ ?_
  · exact fun o ho => (fr_X27_next o ho).mo rfl
  refine fp_ite ?_ ?_
  · exact fun o ho => (fr_X28_next o ho).mo rfl
  exact fp_no
def S_X21_goOn : List Nat := [2112, 2113, 2200, 2201, 2202, 2203, 2204, 2205, 2305, 2500, 2501, 2502, 2503, 2600, 2601, 2603, 2704, 2705, 2706, 2804, 2805, 2806, 7604]
theorem fr_X21_goOn_17 {N : Nat} {k0 : Gt → Dt → Option (Int × Dt)} (h0 : ∀ {G : Gt} {D : Dt}, Fp S_X21_goOn D (fun o => o.2) (k0 G D)) {G : Gt} {D : Dt} : Fp S_X21_goOn D (fun o => o.2) (q_X21_goOn_17 N k0 G D) := by
  unfold q_X21_goOn_17
  refine fp_b2 fr_X21_turn rfl Fr.rf fun _ _ H1 => ?_
  refine fp_ite ?_ ?_
  · skip
    exact fp_ret H1
  · skip
    exact Fp.tr H1 h0
theorem fr_X21_goOn_0 {N : Nat} (n : Nat) : ∀ {G : Gt} {D : Dt}, Fp S_X21_goOn D (fun o => o.2) (q_X21_goOn_0 N n G D) := by
  induction n with
  | zero =>
    intros; exact fp_no
  | succ n ih =>
    intro G D
    show Fp _ _ _ (q_X21_goOn_0 N (n + 1) G D)
    rw [q_X21_goOn_0]
    refine fp_ite ?_ ?_
    · skip
      exact Fp.tr Fr.rf (fr_X21_goOn_17 ih)
    · skip
      refine fp_bnd fun _ => ?_
      refine fp_b2 frv_PacketOrder_Walk_next rfl Fr.rf fun _ _ H1 => ?_
      refine fp_ite ?_ ?_
      · skip
        exact Fp.tr H1 (fr_X21_goOn_17 ih)
      · skip
        refine fp_let ?_
        refine fp_w (Fr.I H1 rfl) fun _ H2 => ?_
        exact fp_ret H2
theorem fr_X21_goOn {N : Nat} {G : Gt} {D : Dt} : Fp S_X21_goOn D (fun o => o.2) (q_X21_goOn N G D) := by
  unfold q_X21_goOn
  exact Fp.tr Fr.rf (fr_X21_goOn_0 _)
def S_X21_skip : List Nat := [2112, 2113, 2200, 2201, 2202, 2203, 2204, 2205, 2305, 2500, 2501, 2502, 2503, 2600, 2601, 2603, 2704, 2705, 2706, 2804, 2805, 2806, 7604]
theorem fr_X21_skip_21 {N : Nat} (n : Nat) : ∀ {x1 : Int} {x2 : Int} {G : Gt} {D : Dt} {c : Ct}, Fp S_X21_skip D (fun o => o.2.1) (q_X21_skip_21 N n x1 x2 G D c) := by
  induction n with
  | zero =>
    intros; exact fp_no
  | succ n ih =>
    intro x1 x2 G D c
    show Fp _ _ _ (q_X21_skip_21 N (n + 1) x1 x2 G D c)
    rw [q_X21_skip_21]
    refine fp_ite ?_ ?_
    · skip
      exact fp_ret Fr.rf
    · skip
      refine fp_b2 fr_X21_goOn rfl Fr.rf fun _ _ H1 => ?_
      refine fp_ite ?_ ?_
      · skip
        exact fp_ret H1
      · skip
        refine fp_gd ?_
        refine fp_let ?_
        exact Fp.tr H1 ih
theorem fr_X21_skip_9 {N : Nat} {x1 : Int} {ts0 : Int} {G : Gt} {D : Dt} {c : Ct} : Fp S_X21_skip D (fun o => o.2.1) (q_X21_skip_9 N x1 ts0 G D c) := by
  unfold q_X21_skip_9
  refine fp_t fr_X21_need rfl Fr.rf fun _ _ H1 => ?_
  refine fp_t fr_X21_must rfl H1 fun _ _ H2 => ?_
  exact Fp.tr H2 (fr_X21_skip_21 _)
theorem fr_X21_skip {N : Nat} {x1 : Int} {G : Gt} {D : Dt} {c : Ct} : Fp S_X21_skip D (fun o => o.2.1) (q_X21_skip N x1 G D c) := by
  unfold q_X21_skip
  exact Fp.tr Fr.rf (fr_X21_skip_9)
def S_X21_next : List Nat := [2112, 2113, 2200, 2201, 2202, 2203, 2204, 2205, 2305, 2500, 2501, 2502, 2503, 2600, 2601, 2603, 2704, 2705, 2706, 2804, 2805, 2806, 7604]
theorem fr_X21_next {N : Nat} {G : Gt} {D : Dt} {c : Ct} : Fp S_X21_next D (fun o => o.2.1) (q_X21_next N G D c) := by
  unfold q_X21_next
  refine fp_t fr_X21_must rfl Fr.rf fun _ _ H1 => ?_
  refine fp_b2 fr_X21_goOn rfl H1 fun _ _ H2 => ?_
  refine fp_gd ?_
  exact fp_ret H2
def S_X63_clear : List Nat := [6300, 6314, 6316]
theorem fr_X63_clear {G : Gt} {D : Dt} : Fr S_X63_clear D ((fun o => o) (q_X63_clear G D)) := by
  have h : Fp S_X63_clear D (fun o => o) (some (q_X63_clear G D)) := by
    unfold q_X63_clear
    refine fp_sw (Fr.I Fr.rf rfl) fun _ H1 => ?_
    refine fp_sw (Fr.I H1 rfl) fun _ H2 => ?_
    refine fp_sw (Fr.I H2 rfl) fun _ H3 => ?_
    exact fp_ret H3
  exact h _ rfl
def S_X63_refuse : List Nat := [6300]
theorem fr_X63_refuse_18 {ts0 : Int} {G : Gt} {D : Dt} : Fr S_X63_refuse D ((fun o => o.2) (q_X63_refuse_18 ts0 G D)) := by
  have h : Fp S_X63_refuse D (fun o => o.2) (some (q_X63_refuse_18 ts0 G D)) := by
    unfold q_X63_refuse_18
    refine fp_sw (Fr.I Fr.rf rfl) fun _ H1 => ?_
    refine fp_si ?_ ?_
    · skip
      exact fp_ret H1
    · skip
      exact fp_ret H1
  exact h _ rfl
theorem fr_X63_refuse {x1 : Int} {x2 : Int} {G : Gt} {D : Dt} : Fr S_X63_refuse D ((fun o => o.2) (q_X63_refuse x1 x2 G D)) := by
  have h : Fp S_X63_refuse D (fun o => o.2) (some (q_X63_refuse x1 x2 G D)) := by
    unfold q_X63_refuse
    exact fp_ret (Fr.tr Fr.rf fr_X63_refuse_18)
  exact h _ rfl
def S_X63_tile : List Nat := [6300, 6301, 6302, 6303, 6304, 6305, 6316]
theorem fr_X63_tile_52 {x1 : Int} {x2 : Int} {x3 : Int} {x4 : Int} {ts0 : Int} {G : Gt} {D : Dt} : Fr S_X63_tile D ((fun o => o) (q_X63_tile_52 x1 x2 x3 x4 ts0 G D)) := by
  have h : Fp S_X63_tile D (fun o => o) (some (q_X63_tile_52 x1 x2 x3 x4 ts0 G D)) := by
    unfold q_X63_tile_52
    refine fp_sc2 (g := (fun o => o.2)) fr_X63_refuse rfl Fr.rf fun _ _ H1 => ?_
    refine fp_si ?_ ?_
    · skip
      refine fp_sw (Fr.I H1 rfl) fun _ H2 => ?_
      refine fp_sw (Fr.I H2 rfl) fun _ H3 => ?_
      refine fp_sw (Fr.I H3 rfl) fun _ H4 => ?_
      refine fp_sw (Fr.I H4 rfl) fun _ H5 => ?_
      refine fp_sw (Fr.I H5 rfl) fun _ H6 => ?_
      refine fp_sw (Fr.I H6 rfl) fun _ H7 => ?_
      exact fp_ret H7
    · skip
      exact fp_ret H1
  exact h _ rfl
theorem fr_X63_tile_39 {x1 : Int} {x2 : Int} {x3 : Int} {x4 : Int} {ts0 : Int} {G : Gt} {D : Dt} : Fr S_X63_tile D ((fun o => o) (q_X63_tile_39 x1 x2 x3 x4 ts0 G D)) := by
  have h : Fp S_X63_tile D (fun o => o) (some (q_X63_tile_39 x1 x2 x3 x4 ts0 G D)) := by
    unfold q_X63_tile_39
    exact fp_ret (Fr.tr Fr.rf fr_X63_tile_52)
  exact h _ rfl
theorem fr_X63_tile_38 {x1 : Int} {x2 : Int} {x3 : Int} {x4 : Int} {G : Gt} {D : Dt} : Fr S_X63_tile D ((fun o => o) (q_X63_tile_38 x1 x2 x3 x4 G D)) := by
  have h : Fp S_X63_tile D (fun o => o) (some (q_X63_tile_38 x1 x2 x3 x4 G D)) := by
    unfold q_X63_tile_38
    exact fp_ret (Fr.tr Fr.rf fr_X63_tile_39)
  exact h _ rfl
theorem fr_X63_tile {x1 : Int} {x2 : Int} {x3 : Int} {x4 : Int} {G : Gt} {D : Dt} : Fr S_X63_tile D ((fun o => o) (q_X63_tile x1 x2 x3 x4 G D)) := by
  have h : Fp S_X63_tile D (fun o => o) (some (q_X63_tile x1 x2 x3 x4 G D)) := by
    unfold q_X63_tile
    refine fp_si ?_ ?_
    · skip
      exact fp_ret (Fr.tr Fr.rf fr_X63_tile_38)
    · skip
      refine fp_si ?_ ?_
      · skip
        exact fp_ret (Fr.tr Fr.rf fr_X63_tile_38)
      · skip
        refine fp_si ?_ ?_
        · skip
          exact fp_ret (Fr.tr Fr.rf fr_X63_tile_38)
        · skip
          refine fp_si ?_ ?_
          · skip
            exact fp_ret (Fr.tr Fr.rf fr_X63_tile_38)
          · skip
            refine fp_si ?_ ?_
            · skip
              exact fp_ret (Fr.tr Fr.rf fr_X63_tile_38)
            · skip
              refine fp_si ?_ ?_
              · skip
                exact fp_ret (Fr.tr Fr.rf fr_X63_tile_38)
              · skip
                exact fp_ret (Fr.tr Fr.rf fr_X63_tile_39)
  exact h _ rfl
def S_X63_component : List Nat := [6300, 6306, 6307, 6308, 6309, 6310, 6311, 6316]
def S_X63_component_107 : List Nat := [6306, 6310, 6311, 6316]
theorem fr_X63_component_107 {N : Nat} (n : Nat) : ∀ {x5 : Int} {G : Gt} {D : Dt}, Fp S_X63_component_107 D (fun o => o.2) (q_X63_component_107 N n x5 G D) := by
  induction n with
  | zero =>
    intros; exact fp_no
  | succ n ih =>
    intro x5 G D
    show Fp _ _ _ (q_X63_component_107 N (n + 1) x5 G D)
    rw [q_X63_component_107]
    refine fp_ite ?_ ?_
    · skip
      refine fp_w (Fr.I Fr.rf rfl) fun _ H1 => ?_
      refine fp_gd ?_
      refine fp_let ?_
      refine fp_w (Fr.I H1 rfl) fun _ H2 => ?_
      refine fp_gd ?_
      exact fp_ret H2
    · skip
      refine fp_gd ?_
      refine fp_gd ?_
      refine fp_tA rfl Fr.rf fun _ H3 => ?_
      refine fp_tA rfl H3 fun _ H4 => ?_
      refine fp_gd ?_
      refine fp_let ?_
      exact Fp.tr H4 ih
theorem fr_X63_component_66 {N : Nat} {x1 : Int} {x2 : Int} {x3 : Int} {ts0 : Int} {ts1 : Int} {G : Gt} {D : Dt} : Fp S_X63_component D (fun o => o.2) (q_X63_component_66 N x1 x2 x3 ts0 ts1 G D) := by
  unfold q_X63_component_66
  refine fp_l2 (g := (fun o => o.2)) fr_X63_refuse rfl Fr.rf fun _ _ H1 => ?_
  refine fp_ite ?_ ?_
  · skip
    refine fp_tA rfl H1 fun _ H2 => ?_
    refine fp_tA rfl H2 fun _ H3 => ?_
    refine fp_tA rfl H3 fun _ H4 => ?_
    exact Fp.tr H4 (Fp.mo (fr_X63_component_107 _) rfl)
  · skip
    exact fp_ret H1
theorem fr_X63_component_52 {N : Nat} {x1 : Int} {x2 : Int} {x3 : Int} {ts0 : Int} {G : Gt} {D : Dt} : Fp S_X63_component D (fun o => o.2) (q_X63_component_52 N x1 x2 x3 ts0 G D) := by
  unfold q_X63_component_52
  exact Fp.tr Fr.rf (fr_X63_component_66)
theorem fr_X63_component_39 {N : Nat} {x1 : Int} {x2 : Int} {x3 : Int} {ts0 : Int} {G : Gt} {D : Dt} : Fp S_X63_component D (fun o => o.2) (q_X63_component_39 N x1 x2 x3 ts0 G D) := by
  unfold q_X63_component_39
  exact Fp.tr Fr.rf (fr_X63_component_52)
theorem fr_X63_component_38 {N : Nat} {x1 : Int} {x2 : Int} {x3 : Int} {G : Gt} {D : Dt} : Fp S_X63_component D (fun o => o.2) (q_X63_component_38 N x1 x2 x3 G D) := by
  unfold q_X63_component_38
  exact Fp.tr Fr.rf (fr_X63_component_39)
theorem fr_X63_component {N : Nat} {x1 : Int} {x2 : Int} {x3 : Int} {G : Gt} {D : Dt} : Fp S_X63_component D (fun o => o.2) (q_X63_component N x1 x2 x3 G D) := by
  unfold q_X63_component
  refine fp_ite ?_ ?_
  · skip
    exact Fp.tr Fr.rf (fr_X63_component_38)
  · skip
    refine fp_ite ?_ ?_
    · skip
      exact Fp.tr Fr.rf (fr_X63_component_38)
    · skip
      refine fp_ite ?_ ?_
      · skip
        exact Fp.tr Fr.rf (fr_X63_component_38)
      · skip
        refine fp_ite ?_ ?_
        · skip
          exact Fp.tr Fr.rf (fr_X63_component_38)
        · skip
          refine fp_ite ?_ ?_
          · skip
            exact Fp.tr Fr.rf (fr_X63_component_38)
          · skip
            refine fp_ite ?_ ?_
            · skip
              exact Fp.tr Fr.rf (fr_X63_component_38)
            · skip
              exact Fp.tr Fr.rf (fr_X63_component_39)
def S_X63_precincts : List Nat := [6300, 6310, 6311, 6316]
theorem fr_X63_precincts_67 {x1 : Int} {x2 : Int} {x3 : Int} {x4 : Int} {ts0 : Int} {ts1 : Int} {G : Gt} {D : Dt} : Fp S_X63_precincts D (fun o => o) (q_X63_precincts_67 x1 x2 x3 x4 ts0 ts1 G D) := by
  unfold q_X63_precincts_67
  refine fp_l2 (g := (fun o => o.2)) fr_X63_refuse rfl Fr.rf fun _ _ H1 => ?_
  refine fp_ite ?_ ?_
  · skip
    refine fp_gd ?_
    refine fp_gd ?_
    refine fp_tA rfl H1 fun _ H2 => ?_
    refine fp_tA rfl H2 fun _ H3 => ?_
    refine fp_w (Fr.I H3 rfl) fun _ H4 => ?_
    exact fp_ret H4
  · skip
    exact fp_ret H1
theorem fr_X63_precincts_57 {x1 : Int} {x2 : Int} {x3 : Int} {x4 : Int} {x5 : Int} {ts0 : Int} {G : Gt} {D : Dt} : Fp S_X63_precincts D (fun o => o) (q_X63_precincts_57 x1 x2 x3 x4 x5 ts0 G D) := by
  unfold q_X63_precincts_57
  exact Fp.tr Fr.rf (fr_X63_precincts_67)
theorem fr_X63_precincts_40 {x1 : Int} {x2 : Int} {x3 : Int} {x4 : Int} {ts0 : Int} {G : Gt} {D : Dt} : Fp S_X63_precincts D (fun o => o) (q_X63_precincts_40 x1 x2 x3 x4 ts0 G D) := by
  unfold q_X63_precincts_40
  refine fp_bnd fun _ => ?_
  exact Fp.tr Fr.rf (fr_X63_precincts_57)
theorem fr_X63_precincts_35 {x1 : Int} {x2 : Int} {x3 : Int} {x4 : Int} {G : Gt} {D : Dt} : Fp S_X63_precincts D (fun o => o) (q_X63_precincts_35 x1 x2 x3 x4 G D) := by
  unfold q_X63_precincts_35
  exact Fp.tr Fr.rf (fr_X63_precincts_40)
theorem fr_X63_precincts_39 {x1 : Int} {x2 : Int} {x3 : Int} {x4 : Int} {G : Gt} {D : Dt} : Fp S_X63_precincts D (fun o => o) (q_X63_precincts_39 x1 x2 x3 x4 G D) := by
  unfold q_X63_precincts_39
  exact Fp.tr Fr.rf (fr_X63_precincts_40)
theorem fr_X63_precincts {x1 : Int} {x2 : Int} {x3 : Int} {x4 : Int} {G : Gt} {D : Dt} : Fp S_X63_precincts D (fun o => o) (q_X63_precincts x1 x2 x3 x4 G D) := by
  unfold q_X63_precincts
  refine fp_ite ?_ ?_
  · skip
    exact Fp.tr Fr.rf (fr_X63_precincts_39)
  · skip
    refine fp_ite ?_ ?_
    · skip
      exact Fp.tr Fr.rf (fr_X63_precincts_39)
    · skip
      refine fp_ite ?_ ?_
      · skip
        exact Fp.tr Fr.rf (fr_X63_precincts_39)
      · skip
        refine fp_ite ?_ ?_
        · skip
          exact Fp.tr Fr.rf (fr_X63_precincts_39)
        · skip
          refine fp_ite ?_ ?_
          · skip
            exact Fp.tr Fr.rf (fr_X63_precincts_35)
          · skip
            refine fp_ite ?_ ?_
            · skip
              exact Fp.tr Fr.rf (fr_X63_precincts_39)
            · skip
              refine fp_ite ?_ ?_
              · skip
                exact Fp.tr Fr.rf (fr_X63_precincts_39)
              · skip
                exact Fp.tr Fr.rf (fr_X63_precincts_35)
def S_X63_layers : List Nat := [6300, 6312, 6313, 6316]
theorem fr_X63_layers_27 {x1 : Int} {x2 : Int} {ts0 : Int} {G : Gt} {D : Dt} : Fr S_X63_layers D ((fun o => o) (q_X63_layers_27 x1 x2 ts0 G D)) := by
  have h : Fp S_X63_layers D (fun o => o) (some (q_X63_layers_27 x1 x2 ts0 G D)) := by
    unfold q_X63_layers_27
    refine fp_sc2 (g := (fun o => o.2)) fr_X63_refuse rfl Fr.rf fun _ _ H1 => ?_
    refine fp_si ?_ ?_
    · skip
      refine fp_sw (Fr.I H1 rfl) fun _ H2 => ?_
      refine fp_sw (Fr.I H2 rfl) fun _ H3 => ?_
      refine fp_sw (Fr.I H3 rfl) fun _ H4 => ?_
      exact fp_ret H4
    · skip
      exact fp_ret H1
  exact h _ rfl
theorem fr_X63_layers_22 {x1 : Int} {x2 : Int} {G : Gt} {D : Dt} : Fr S_X63_layers D ((fun o => o) (q_X63_layers_22 x1 x2 G D)) := by
  have h : Fp S_X63_layers D (fun o => o) (some (q_X63_layers_22 x1 x2 G D)) := by
    unfold q_X63_layers_22
    exact fp_ret (Fr.tr Fr.rf fr_X63_layers_27)
  exact h _ rfl
theorem fr_X63_layers {x1 : Int} {x2 : Int} {G : Gt} {D : Dt} : Fr S_X63_layers D ((fun o => o) (q_X63_layers x1 x2 G D)) := by
  have h : Fp S_X63_layers D (fun o => o) (some (q_X63_layers x1 x2 G D)) := by
    unfold q_X63_layers
    refine fp_si ?_ ?_
    · skip
      exact fp_ret (Fr.tr Fr.rf fr_X63_layers_22)
    · skip
      refine fp_si ?_ ?_
      · skip
        exact fp_ret (Fr.tr Fr.rf fr_X63_layers_22)
      · skip
        refine fp_si ?_ ?_
        · skip
          exact fp_ret (Fr.tr Fr.rf fr_X63_layers_22)
        · skip
          refine fp_si ?_ ?_
          · skip
            exact fp_ret (Fr.tr Fr.rf fr_X63_layers_27)
          · skip
            exact fp_ret (Fr.tr Fr.rf fr_X63_layers_22)
  exact h _ rfl
def S_X63_change : List Nat := [6300, 6314, 6315, 6316]
theorem fr_X63_change_101 {x1 : Int} {x2 : Int} {x3 : Int} {x4 : Int} {x5 : Int} {x6 : Int} {ts0 : Int} {ts1 : Int} {G : Gt} {D : Dt} : Fp S_X63_change D (fun o => o.2) (q_X63_change_101 x1 x2 x3 x4 x5 x6 ts0 ts1 G D) := by
  unfold q_X63_change_101
  refine fp_l2 (g := (fun o => o.2)) fr_X63_refuse rfl Fr.rf fun _ _ H1 => ?_
  refine fp_ite ?_ ?_
  · skip
    refine fp_gd ?_
    refine fp_tA rfl H1 fun _ H2 => ?_
    refine fp_gd ?_
    refine fp_tA rfl H2 fun _ H3 => ?_
    refine fp_gd ?_
    refine fp_tA rfl H3 fun _ H4 => ?_
    refine fp_gd ?_
    refine fp_tA rfl H4 fun _ H5 => ?_
    refine fp_gd ?_
    refine fp_tA rfl H5 fun _ H6 => ?_
    refine fp_gd ?_
    refine fp_tA rfl H6 fun _ H7 => ?_
    refine fp_w (Fr.I H7 rfl) fun _ H8 => ?_
    refine fp_gd ?_
    refine fp_let ?_
    refine fp_w (Fr.I H8 rfl) fun _ H9 => ?_
    exact fp_ret H9
  · skip
    exact fp_ret H1
theorem fr_X63_change_87 {x1 : Int} {x2 : Int} {x3 : Int} {x4 : Int} {x5 : Int} {x6 : Int} {ts0 : Int} {G : Gt} {D : Dt} : Fp S_X63_change D (fun o => o.2) (q_X63_change_87 x1 x2 x3 x4 x5 x6 ts0 G D) := by
  unfold q_X63_change_87
  exact Fp.tr Fr.rf (fr_X63_change_101)
theorem fr_X63_change_74 {x1 : Int} {x2 : Int} {x3 : Int} {x4 : Int} {x5 : Int} {x6 : Int} {ts0 : Int} {G : Gt} {D : Dt} : Fp S_X63_change D (fun o => o.2) (q_X63_change_74 x1 x2 x3 x4 x5 x6 ts0 G D) := by
  unfold q_X63_change_74
  exact Fp.tr Fr.rf (fr_X63_change_87)
theorem fr_X63_change_73 {x1 : Int} {x2 : Int} {x3 : Int} {x4 : Int} {x5 : Int} {x6 : Int} {G : Gt} {D : Dt} : Fp S_X63_change D (fun o => o.2) (q_X63_change_73 x1 x2 x3 x4 x5 x6 G D) := by
  unfold q_X63_change_73
  exact Fp.tr Fr.rf (fr_X63_change_74)
theorem fr_X63_change {x1 : Int} {x2 : Int} {x3 : Int} {x4 : Int} {x5 : Int} {x6 : Int} {G : Gt} {D : Dt} : Fp S_X63_change D (fun o => o.2) (q_X63_change x1 x2 x3 x4 x5 x6 G D) := by
  unfold q_X63_change
  refine fp_ite ?_ ?_
  · skip
    exact Fp.tr Fr.rf (fr_X63_change_73)
  · skip
    refine fp_ite ?_ ?_
    · skip
      exact Fp.tr Fr.rf (fr_X63_change_73)
    · skip
      refine fp_ite ?_ ?_
      · skip
        exact Fp.tr Fr.rf (fr_X63_change_73)
      · skip
        refine fp_ite ?_ ?_
        · skip
          exact Fp.tr Fr.rf (fr_X63_change_73)
        · skip
          refine fp_ite ?_ ?_
          · skip
            exact Fp.tr Fr.rf (fr_X63_change_73)
          · skip
            refine fp_ite ?_ ?_
            · skip
              exact Fp.tr Fr.rf (fr_X63_change_73)
            · skip
              refine fp_ite ?_ ?_
              · skip
                exact Fp.tr Fr.rf (fr_X63_change_73)
              · skip
                refine fp_ite ?_ ?_
                · skip
                  exact Fp.tr Fr.rf (fr_X63_change_73)
                · skip
                  refine fp_ite ?_ ?_
                  · skip
                    exact Fp.tr Fr.rf (fr_X63_change_73)
                  · skip
                    refine fp_ite ?_ ?_
                    · skip
                      exact Fp.tr Fr.rf (fr_X63_change_73)
                    · skip
                      refine fp_ite ?_ ?_
                      · skip
                        exact Fp.tr Fr.rf (fr_X63_change_73)
                      · skip
                        refine fp_ite ?_ ?_
                        · skip
                          exact Fp.tr Fr.rf (fr_X63_change_73)
                        · skip
                          exact Fp.tr Fr.rf (fr_X63_change_74)
def S_X63_findLevel : List Nat := [6334, 6335, 6336, 6337]
theorem fr_X63_findLevel_70 {N : Nat} (n : Nat) : ∀ {x1 : Int} {x3 : Int} {G : Gt} {D : Dt}, Fp S_X63_findLevel D (fun o => o) (q_X63_findLevel_70 N n x1 x3 G D) := by
  induction n with
  | zero =>
    intros; exact fp_no
  | succ n ih =>
    intro x1 x3 G D
    show Fp _ _ _ (q_X63_findLevel_70 N (n + 1) x1 x3 G D)
    rw [q_X63_findLevel_70]
    refine fp_bnd fun _ => ?_
    refine fp_ite ?_ ?_
    · skip
      exact fp_ret Fr.rf
    · skip
      refine fp_gd ?_
      refine fp_let ?_
      refine fp_w (Fr.I Fr.rf rfl) fun _ H1 => ?_
      refine fp_gd ?_
      refine fp_let ?_
      refine fp_w (Fr.I H1 rfl) fun _ H2 => ?_
      refine fp_gd ?_
      refine fp_let ?_
      refine fp_w (Fr.I H2 rfl) fun _ H3 => ?_
      refine fp_gd ?_
      refine fp_let ?_
      refine fp_w (Fr.I H3 rfl) fun _ H4 => ?_
      refine fp_gd ?_
      refine fp_let ?_
      exact Fp.tr H4 ih
theorem fr_X63_findLevel {N : Nat} {x1 : Int} {x2 : Int} {G : Gt} {D : Dt} : Fp S_X63_findLevel D (fun o => o) (q_X63_findLevel N x1 x2 G D) := by
  unfold q_X63_findLevel
  refine fp_bnd fun _ => ?_
  refine fp_bnd fun _ => ?_
  refine fp_w (Fr.I Fr.rf rfl) fun _ H1 => ?_
  refine fp_bnd fun _ => ?_
  refine fp_bnd fun _ => ?_
  refine fp_w (Fr.I H1 rfl) fun _ H2 => ?_
  refine fp_bnd fun _ => ?_
  refine fp_bnd fun _ => ?_
  refine fp_w (Fr.I H2 rfl) fun _ H3 => ?_
  refine fp_bnd fun _ => ?_
  refine fp_bnd fun _ => ?_
  refine fp_w (Fr.I H3 rfl) fun _ H4 => ?_
  exact Fp.tr H4 (fr_X63_findLevel_70 _)
def S_X63_count : List Nat := [6334, 6335, 6336, 6337]
theorem fr_X63_count_15 {N : Nat} {k4 : Int → Int → Gt → Dt → Option (Int × Dt)} (h4 : ∀ {x1 : Int} {x3 : Int} {G : Gt} {D : Dt}, Fp S_X63_count D (fun o => o.2) (k4 x1 x3 G D)) (n : Nat) : ∀ {x1 : Int} {x3 : Int} {x4 : Int} {G : Gt} {D : Dt}, Fp S_X63_count D (fun o => o.2) (q_X63_count_15 N k4 n x1 x3 x4 G D) := by
  induction n with
  | zero =>
    intros; exact fp_no
  | succ n ih =>
    intro x1 x3 x4 G D
    show Fp _ _ _ (q_X63_count_15 N k4 (n + 1) x1 x3 x4 G D)
    rw [q_X63_count_15]
    refine fp_bnd fun _ => ?_
    refine fp_ite ?_ ?_
    · skip
      refine fp_gd ?_
      refine fp_let ?_
      exact Fp.tr Fr.rf h4
    · skip
      refine fp_b fr_X63_findLevel rfl Fr.rf fun _ H1 => ?_
      refine fp_bnd fun _ => ?_
      refine fp_bnd fun _ => ?_
      refine fp_gd ?_
      refine fp_gd ?_
      refine fp_let ?_
      refine fp_gd ?_
      refine fp_let ?_
      exact Fp.tr H1 ih
theorem fr_X63_count_4 {N : Nat} (n : Nat) : ∀ {x1 : Int} {x3 : Int} {G : Gt} {D : Dt}, Fp S_X63_count D (fun o => o.2) (q_X63_count_4 N n x1 x3 G D) := by
  induction n with
  | zero =>
    intros; exact fp_no
  | succ n ih =>
    intro x1 x3 G D
    show Fp _ _ _ (q_X63_count_4 N (n + 1) x1 x3 G D)
    rw [q_X63_count_4]
    refine fp_ite ?_ ?_
    · skip
      exact fp_ret Fr.rf
    · skip
      exact Fp.tr Fr.rf (fr_X63_count_15 ih _)
theorem fr_X63_count {N : Nat} {G : Gt} {D : Dt} : Fp S_X63_count D (fun o => o.2) (q_X63_count N G D) := by
  unfold q_X63_count
  exact Fp.tr Fr.rf (fr_X63_count_4 _)
def S_X63_list : List Nat := [6317, 6318, 6319, 6320, 6321, 6322, 6323, 6334, 6335, 6336, 6337]
def S_X63_list_34 : List Nat := [6317, 6318, 6319, 6320, 6321, 6322, 6323]
theorem fr_X63_list_34 {N : Nat} (n : Nat) : ∀ {x1 : Int} {x2 : Int} {x3 : Int} {x4 : Int} {x5 : Int} {x6 : Int} {G : Gt} {D : Dt}, Fp S_X63_list_34 D (fun o => o) (q_X63_list_34 N n x1 x2 x3 x4 x5 x6 G D) := by
  induction n with
  | zero =>
    intros; exact fp_no
  | succ n ih =>
    intro x1 x2 x3 x4 x5 x6 G D
    show Fp _ _ _ (q_X63_list_34 N (n + 1) x1 x2 x3 x4 x5 x6 G D)
    rw [q_X63_list_34]
    refine fp_gd ?_
    refine fp_ite ?_ ?_
    · skip
      exact fp_ret Fr.rf
    · skip
      refine fp_gd ?_
      refine fp_gd ?_
      refine fp_bnd fun _ => ?_
      refine fp_gd ?_
      refine fp_gd ?_
      refine fp_let ?_
      refine fp_bnd fun _ => ?_
      refine fp_gd ?_
      refine fp_gd ?_
      refine fp_gd ?_
      refine fp_let ?_
      refine fp_tA rfl Fr.rf fun _ H1 => ?_
      refine fp_tA rfl H1 fun _ H2 => ?_
      refine fp_tA rfl H2 fun _ H3 => ?_
      refine fp_bnd fun _ => ?_
      refine fp_bnd fun _ => ?_
      refine fp_bnd fun _ => ?_
      refine fp_tA rfl H3 fun _ H4 => ?_
      refine fp_bnd fun _ => ?_
      refine fp_bnd fun _ => ?_
      refine fp_bnd fun _ => ?_
      refine fp_tA rfl H4 fun _ H5 => ?_
      refine fp_tA rfl H5 fun _ H6 => ?_
      refine fp_gd ?_
      refine fp_let ?_
      refine fp_w (Fr.I H6 rfl) fun _ H7 => ?_
      refine fp_gd ?_
      refine fp_let ?_
      exact Fp.tr H7 ih
theorem fr_X63_list {N : Nat} {x1 : Int} {x2 : Int} {G : Gt} {D : Dt} : Fp S_X63_list D (fun o => o) (q_X63_list N x1 x2 G D) := by
  unfold q_X63_list
  refine fp_b fr_X63_findLevel rfl Fr.rf fun _ H1 => ?_
  refine fp_bnd fun _ => ?_
  refine fp_bnd fun _ => ?_
  refine fp_bnd fun _ => ?_
  refine fp_gd ?_
  refine fp_let ?_
  exact Fp.tr H1 (Fp.mo (fr_X63_list_34 _) rfl)
def S_X63_sort : List Nat := [6324]
theorem fr_X63_sort_102 {N : Nat} {k27 : Int → Int → Gt → Dt → Option Dt} (h27 : ∀ {x1 : Int} {x2 : Int} {G : Gt} {D : Dt}, Fp S_X63_sort D (fun o => o) (k27 x1 x2 G D)) {k33 : Int → Int → Int → Gt → Dt → Option Dt} (h33 : ∀ {x1 : Int} {x2 : Int} {x3 : Int} {G : Gt} {D : Dt}, Fp S_X63_sort D (fun o => o) (k33 x1 x2 x3 G D)) {x1 : Int} {x2 : Int} {x3 : Int} {x4 : Int} {x5 : Int} {G : Gt} {D : Dt} : Fp S_X63_sort D (fun o => o) (q_X63_sort_102 N k27 k33 x1 x2 x3 x4 x5 G D) := by
  unfold q_X63_sort_102
  refine fp_tA rfl Fr.rf fun _ H1 => ?_
  refine fp_gd ?_
  refine fp_let ?_
  exact Fp.tr H1 h33
theorem fr_X63_sort_52 {N : Nat} {k27 : Int → Int → Gt → Dt → Option Dt} (h27 : ∀ {x1 : Int} {x2 : Int} {G : Gt} {D : Dt}, Fp S_X63_sort D (fun o => o) (k27 x1 x2 G D)) {k33 : Int → Int → Int → Gt → Dt → Option Dt} (h33 : ∀ {x1 : Int} {x2 : Int} {x3 : Int} {G : Gt} {D : Dt}, Fp S_X63_sort D (fun o => o) (k33 x1 x2 x3 G D)) (n : Nat) : ∀ {x1 : Int} {x2 : Int} {x3 : Int} {x4 : Int} {x5 : Int} {G : Gt} {D : Dt}, Fp S_X63_sort D (fun o => o) (q_X63_sort_52 N k27 k33 n x1 x2 x3 x4 x5 G D) := by
  induction n with
  | zero =>
    intros; exact fp_no
  | succ n ih =>
    intro x1 x2 x3 x4 x5 G D
    show Fp _ _ _ (q_X63_sort_52 N k27 k33 (n + 1) x1 x2 x3 x4 x5 G D)
    rw [q_X63_sort_52]
    refine fp_ite ?_ ?_
    · skip
      exact Fp.tr Fr.rf (fr_X63_sort_102 h27 h33)
    · skip
      refine fp_gd ?_
      refine fp_bnd fun _ => ?_
      refine fp_bnd fun _ => ?_
      refine fp_ite ?_ ?_
      · skip
        exact Fp.tr Fr.rf (fr_X63_sort_102 h27 h33)
      · skip
        refine fp_bnd fun _ => ?_
        refine fp_tA rfl Fr.rf fun _ H1 => ?_
        refine fp_let ?_
        exact Fp.tr H1 ih
theorem fr_X63_sort_33 {N : Nat} {k27 : Int → Int → Gt → Dt → Option Dt} (h27 : ∀ {x1 : Int} {x2 : Int} {G : Gt} {D : Dt}, Fp S_X63_sort D (fun o => o) (k27 x1 x2 G D)) (n : Nat) : ∀ {x1 : Int} {x2 : Int} {x3 : Int} {G : Gt} {D : Dt}, Fp S_X63_sort D (fun o => o) (q_X63_sort_33 N k27 n x1 x2 x3 G D) := by
  induction n with
  | zero =>
    intros; exact fp_no
  | succ n ih =>
    intro x1 x2 x3 G D
    show Fp _ _ _ (q_X63_sort_33 N k27 (n + 1) x1 x2 x3 G D)
    rw [q_X63_sort_33]
    refine fp_ite ?_ ?_
    · skip
      refine fp_gd ?_
      refine fp_let ?_
      exact Fp.tr Fr.rf h27
    · skip
      refine fp_bnd fun _ => ?_
      exact Fp.tr Fr.rf (fr_X63_sort_52 h27 ih _)
theorem fr_X63_sort_27 {N : Nat} (n : Nat) : ∀ {x1 : Int} {x2 : Int} {G : Gt} {D : Dt}, Fp S_X63_sort D (fun o => o) (q_X63_sort_27 N n x1 x2 G D) := by
  induction n with
  | zero =>
    intros; exact fp_no
  | succ n ih =>
    intro x1 x2 G D
    show Fp _ _ _ (q_X63_sort_27 N (n + 1) x1 x2 G D)
    rw [q_X63_sort_27]
    refine fp_ite ?_ ?_
    · skip
      exact fp_ret Fr.rf
    · skip
      exact Fp.tr Fr.rf (fr_X63_sort_33 ih _)
theorem fr_X63_sort_2 {N : Nat} (n : Nat) : ∀ {x1 : Int} {x2 : Int} {G : Gt} {D : Dt}, Fp S_X63_sort D (fun o => o) (q_X63_sort_2 N n x1 x2 G D) := by
  induction n with
  | zero =>
    intros; exact fp_no
  | succ n ih =>
    intro x1 x2 G D
    show Fp _ _ _ (q_X63_sort_2 N (n + 1) x1 x2 G D)
    rw [q_X63_sort_2]
    refine fp_ite ?_ ?_
    · skip
      exact Fp.tr Fr.rf (fr_X63_sort_27 _)
    · skip
      refine fp_tA rfl Fr.rf fun _ H1 => ?_
      refine fp_gd ?_
      refine fp_let ?_
      exact Fp.tr H1 ih
theorem fr_X63_sort {N : Nat} {x1 : Int} {G : Gt} {D : Dt} : Fp S_X63_sort D (fun o => o) (q_X63_sort N x1 G D) := by
  unfold q_X63_sort
  exact Fp.tr Fr.rf (fr_X63_sort_2 _)
def S_X63_findGroup : List Nat := [6327]
theorem fr_X63_findGroup_26 {N : Nat} (n : Nat) : ∀ {x1 : Int} {G : Gt} {D : Dt}, Fp S_X63_findGroup D (fun o => o) (q_X63_findGroup_26 N n x1 G D) := by
  induction n with
  | zero =>
    intros; exact fp_no
  | succ n ih =>
    intro x1 G D
    show Fp _ _ _ (q_X63_findGroup_26 N (n + 1) x1 G D)
    rw [q_X63_findGroup_26]
    refine fp_ite ?_ ?_
    · skip
      refine fp_ite ?_ ?_
      · skip
        exact fp_ret Fr.rf
      · skip
        refine fp_bnd fun _ => ?_
        refine fp_bnd fun _ => ?_
        refine fp_bnd fun _ => ?_
        refine fp_bnd fun _ => ?_
        refine fp_ite ?_ ?_
        · skip
          refine fp_gd ?_
          refine fp_let ?_
          refine fp_w (Fr.I Fr.rf rfl) fun _ H1 => ?_
          exact Fp.tr H1 ih
        · skip
          exact fp_ret Fr.rf
    · skip
      exact fp_ret Fr.rf
theorem fr_X63_findGroup_23 {N : Nat} {x1 : Int} {ts0 : Int} {G : Gt} {D : Dt} : Fp S_X63_findGroup D (fun o => o) (q_X63_findGroup_23 N x1 ts0 G D) := by
  unfold q_X63_findGroup_23
  refine fp_w (Fr.I Fr.rf rfl) fun _ H1 => ?_
  exact Fp.tr H1 (fr_X63_findGroup_26 _)
theorem fr_X63_findGroup {N : Nat} {G : Gt} {D : Dt} : Fp S_X63_findGroup D (fun o => o) (q_X63_findGroup N G D) := by
  unfold q_X63_findGroup
  refine fp_bnd fun _ => ?_
  refine fp_ite ?_ ?_
  · skip
    exact Fp.tr Fr.rf (fr_X63_findGroup_23)
  · skip
    refine fp_gd ?_
    exact Fp.tr Fr.rf (fr_X63_findGroup_23)
def S_X63_enter : List Nat := [6324, 6326, 6327, 6328, 6329]
theorem fr_X63_enter {N : Nat} {G : Gt} {D : Dt} : Fp S_X63_enter D (fun o => o) (q_X63_enter N G D) := by
  unfold q_X63_enter
  refine fp_let ?_
  refine fp_ite ?_ ?_
  · skip
    refine fp_bnd fun _ => ?_
    refine fp_b fr_X63_sort rfl Fr.rf fun _ H1 => ?_
    refine fp_w (Fr.I H1 rfl) fun _ H2 => ?_
    refine fp_b fr_X63_findGroup rfl H2 fun _ H3 => ?_
    refine fp_w (Fr.I H3 rfl) fun _ H4 => ?_
    refine fp_w (Fr.I H4 rfl) fun _ H5 => ?_
    exact fp_ret H5
  · skip
    exact fp_ret Fr.rf
def S_X63_begin : List Nat := [6300, 6316, 6317, 6318, 6319, 6320, 6321, 6322, 6323, 6324, 6325, 6326, 6327, 6328, 6329, 6330, 6334, 6335, 6336, 6337]
def S_X63_begin_67 : List Nat := [6316, 6317, 6318, 6319, 6320, 6321, 6322, 6323, 6324, 6325, 6326, 6327, 6328, 6329, 6330, 6334, 6335, 6336, 6337]
theorem fr_X63_begin_67 {N : Nat} {k57 : Int → Gt → Dt → Option (Int × Dt)} (h57 : ∀ {x2 : Int} {G : Gt} {D : Dt}, Fp S_X63_begin_67 D (fun o => o.2) (k57 x2 G D)) (n : Nat) : ∀ {x2 : Int} {x3 : Int} {G : Gt} {D : Dt}, Fp S_X63_begin_67 D (fun o => o.2) (q_X63_begin_67 N k57 n x2 x3 G D) := by
  induction n with
  | zero =>
    intros; exact fp_no
  | succ n ih =>
    intro x2 x3 G D
    show Fp _ _ _ (q_X63_begin_67 N k57 (n + 1) x2 x3 G D)
    rw [q_X63_begin_67]
    refine fp_bnd fun _ => ?_
    refine fp_ite ?_ ?_
    · skip
      refine fp_gd ?_
      refine fp_let ?_
      exact Fp.tr Fr.rf h57
    · skip
      refine fp_b fr_X63_list rfl Fr.rf fun _ H1 => ?_
      refine fp_gd ?_
      refine fp_let ?_
      exact Fp.tr H1 ih
theorem fr_X63_begin_57 {N : Nat} (n : Nat) : ∀ {x2 : Int} {G : Gt} {D : Dt}, Fp S_X63_begin_67 D (fun o => o.2) (q_X63_begin_57 N n x2 G D) := by
  induction n with
  | zero =>
    intros; exact fp_no
  | succ n ih =>
    intro x2 G D
    show Fp _ _ _ (q_X63_begin_57 N (n + 1) x2 G D)
    rw [q_X63_begin_57]
    refine fp_ite ?_ ?_
    · skip
      refine fp_w (Fr.I Fr.rf rfl) fun _ H1 => ?_
      refine fp_w (Fr.I H1 rfl) fun _ H2 => ?_
      refine fp_w (Fr.I H2 rfl) fun _ H3 => ?_
      refine fp_b fr_X63_enter rfl H3 fun _ H4 => ?_
      refine fp_gd ?_
      exact fp_ret H4
    · skip
      exact Fp.tr Fr.rf (fr_X63_begin_67 ih _)
theorem fr_X63_begin_42 {N : Nat} {ts0 : Int} {ts1 : Int} {G : Gt} {D : Dt} : Fp S_X63_begin D (fun o => o.2) (q_X63_begin_42 N ts0 ts1 G D) := by
  unfold q_X63_begin_42
  refine fp_l2 (g := (fun o => o.2)) fr_X63_refuse rfl Fr.rf fun _ _ H1 => ?_
  refine fp_ite ?_ ?_
  · skip
    refine fp_w (Fr.I H1 rfl) fun _ H2 => ?_
    exact Fp.tr H2 (Fp.mo (fr_X63_begin_57 _) rfl)
  · skip
    exact fp_ret H1
theorem fr_X63_begin_41 {N : Nat} {ts0 : Int} {G : Gt} {D : Dt} : Fp S_X63_begin D (fun o => o.2) (q_X63_begin_41 N ts0 G D) := by
  unfold q_X63_begin_41
  exact Fp.tr Fr.rf (fr_X63_begin_42)
theorem fr_X63_begin_19 {N : Nat} {ts0 : Int} {G : Gt} {D : Dt} : Fp S_X63_begin D (fun o => o.2) (q_X63_begin_19 N ts0 G D) := by
  unfold q_X63_begin_19
  refine fp_ite ?_ ?_
  · skip
    refine fp_b2 fr_X63_count rfl Fr.rf fun _ _ H1 => ?_
    refine fp_ite ?_ ?_
    · skip
      exact Fp.tr H1 (fr_X63_begin_41)
    · skip
      exact Fp.tr H1 (fr_X63_begin_42)
  · skip
    exact Fp.tr Fr.rf (fr_X63_begin_41)
theorem fr_X63_begin_14 {N : Nat} {G : Gt} {D : Dt} : Fp S_X63_begin D (fun o => o.2) (q_X63_begin_14 N G D) := by
  unfold q_X63_begin_14
  exact Fp.tr Fr.rf (fr_X63_begin_19)
theorem fr_X63_begin {N : Nat} {G : Gt} {D : Dt} : Fp S_X63_begin D (fun o => o.2) (q_X63_begin N G D) := by
  unfold q_X63_begin
  refine fp_ite ?_ ?_
  · skip
    exact Fp.tr Fr.rf (fr_X63_begin_14)
  · skip
    refine fp_ite ?_ ?_
    · skip
      exact Fp.tr Fr.rf (fr_X63_begin_14)
    · skip
      exact Fp.tr Fr.rf (fr_X63_begin_19)
def S_X63_move : List Nat := [6324, 6325, 6326, 6327, 6328, 6329]
theorem fr_X63_move {N : Nat} {G : Gt} {D : Dt} : Fp S_X63_move D (fun o => o) (q_X63_move N G D) := by
  unfold q_X63_move
  refine fp_gd ?_
  refine fp_let ?_
  refine fp_w (Fr.I Fr.rf rfl) fun _ H1 => ?_
  refine fp_ite ?_ ?_
  · skip
    refine fp_gd ?_
    refine fp_let ?_
    refine fp_w (Fr.I H1 rfl) fun _ H2 => ?_
    refine fp_let ?_
    refine fp_w (Fr.I H2 rfl) fun _ H3 => ?_
    refine fp_bnd fun _ => ?_
    refine fp_ite ?_ ?_
    · skip
      refine fp_w (Fr.I H3 rfl) fun _ H4 => ?_
      refine fp_let ?_
      refine fp_w (Fr.I H4 rfl) fun _ H5 => ?_
      refine fp_w (Fr.I H5 rfl) fun _ H6 => ?_
      refine fp_ite ?_ ?_
      · skip
        refine fp_gd ?_
        refine fp_let ?_
        refine fp_w (Fr.I H6 rfl) fun _ H7 => ?_
        refine fp_b fr_X63_enter rfl H7 fun _ H8 => ?_
        exact fp_ret H8
      · skip
        refine fp_b fr_X63_findGroup rfl H6 fun _ H9 => ?_
        exact fp_ret H9
    · skip
      exact fp_ret H3
  · skip
    exact fp_ret H1
def S_X63_advance : List Nat := [6323, 6324, 6325, 6326, 6327, 6328, 6329, 6330, 6331, 6332, 6333]
theorem fr_X63_advance_101 {N : Nat} {k2 : Int → Gt → Dt → Option (Int × Dt)} (h2 : ∀ {x1 : Int} {G : Gt} {D : Dt}, Fp S_X63_advance D (fun o => o.2) (k2 x1 G D)) {x1 : Int} {G : Gt} {D : Dt} : Fp S_X63_advance D (fun o => o.2) (q_X63_advance_101 N k2 x1 G D) := by
  unfold q_X63_advance_101
  refine fp_b fr_X63_move rfl Fr.rf fun _ H1 => ?_
  exact Fp.tr H1 h2
theorem fr_X63_advance_60 {N : Nat} {k2 : Int → Gt → Dt → Option (Int × Dt)} (h2 : ∀ {x1 : Int} {G : Gt} {D : Dt}, Fp S_X63_advance D (fun o => o.2) (k2 x1 G D)) {x2 : Int} {ts0 : Int} {G : Gt} {D : Dt} : Fp S_X63_advance D (fun o => o.2) (q_X63_advance_60 N k2 x2 ts0 G D) := by
  unfold q_X63_advance_60
  refine fp_ite ?_ ?_
  · skip
    exact Fp.tr Fr.rf (fr_X63_advance_101 h2)
  · skip
    refine fp_w (Fr.I Fr.rf rfl) fun _ H1 => ?_
    refine fp_let ?_
    refine fp_w (Fr.I H1 rfl) fun _ H2 => ?_
    refine fp_let ?_
    refine fp_w (Fr.I H2 rfl) fun _ H3 => ?_
    refine fp_bnd fun _ => ?_
    refine fp_gd ?_
    refine fp_tA rfl H3 fun _ H4 => ?_
    refine fp_w (Fr.I H4 rfl) fun _ H5 => ?_
    exact Fp.tr H5 (fr_X63_advance_101 h2)
theorem fr_X63_advance_59 {N : Nat} {k2 : Int → Gt → Dt → Option (Int × Dt)} (h2 : ∀ {x1 : Int} {G : Gt} {D : Dt}, Fp S_X63_advance D (fun o => o.2) (k2 x1 G D)) {x2 : Int} {G : Gt} {D : Dt} : Fp S_X63_advance D (fun o => o.2) (q_X63_advance_59 N k2 x2 G D) := by
  unfold q_X63_advance_59
  exact Fp.tr Fr.rf (fr_X63_advance_60 h2)
theorem fr_X63_advance_2 {N : Nat} (n : Nat) : ∀ {x1 : Int} {G : Gt} {D : Dt}, Fp S_X63_advance D (fun o => o.2) (q_X63_advance_2 N n x1 G D) := by
  induction n with
  | zero =>
    intros; exact fp_no
  | succ n ih =>
    intro x1 G D
    show Fp _ _ _ (q_X63_advance_2 N (n + 1) x1 G D)
    rw [q_X63_advance_2]
    refine fp_ite ?_ ?_
    · skip
      refine fp_let ?_
      refine fp_ite ?_ ?_
      · skip
        refine fp_gd ?_
        exact fp_ret Fr.rf
      · skip
        refine fp_ite ?_ ?_
        · skip
          refine fp_gd ?_
          exact fp_ret Fr.rf
        · skip
          refine fp_bnd fun _ => ?_
          refine fp_bnd fun _ => ?_
          refine fp_ite ?_ ?_
          · skip
            exact Fp.tr Fr.rf (fr_X63_advance_59 ih)
          · skip
            refine fp_bnd fun _ => ?_
            refine fp_ite ?_ ?_
            · skip
              exact Fp.tr Fr.rf (fr_X63_advance_60 ih)
            · skip
              exact Fp.tr Fr.rf (fr_X63_advance_59 ih)
    · skip
      refine fp_gd ?_
      exact fp_ret Fr.rf
theorem fr_X63_advance {N : Nat} {G : Gt} {D : Dt} : Fp S_X63_advance D (fun o => o.2) (q_X63_advance N G D) := by
  unfold q_X63_advance
  exact Fp.tr Fr.rf (fr_X63_advance_2 _)
def S_X63_next : List Nat := [6300, 6323, 6324, 6325, 6326, 6327, 6328, 6329, 6330, 6331, 6332, 6333]
theorem fr_X63_next_13 {N : Nat} {ts0 : Int} {G : Gt} {D : Dt} : Fp S_X63_next D (fun o => o.2) (q_X63_next_13 N ts0 G D) := by
  unfold q_X63_next_13
  refine fp_l2 (g := (fun o => o.2)) fr_X63_refuse rfl Fr.rf fun _ _ H1 => ?_
  refine fp_ite ?_ ?_
  · skip
    refine fp_b2 fr_X63_advance rfl H1 fun _ _ H2 => ?_
    refine fp_gd ?_
    exact fp_ret H2
  · skip
    exact fp_ret H1
theorem fr_X63_next {N : Nat} {G : Gt} {D : Dt} : Fp S_X63_next D (fun o => o.2) (q_X63_next N G D) := by
  unfold q_X63_next
  exact Fp.tr Fr.rf (fr_X63_next_13)
def S_X63_packet : List Nat := [6300]
theorem fr_X63_packet_29 {x1 : Int} {ts0 : Int} {G : Gt} {D : Dt} : Fp S_X63_packet D (fun o => o.2) (q_X63_packet_29 x1 ts0 G D) := by
  unfold q_X63_packet_29
  refine fp_l2 (g := (fun o => o.2)) fr_X63_refuse rfl Fr.rf fun _ _ H1 => ?_
  refine fp_ite ?_ ?_
  · skip
    refine fp_ite ?_ ?_
    · skip
      exact fp_ret H1
    refine fp_ite ?_ ?_
    · skip
      refine fp_bnd fun _ => ?_
      exact fp_ret H1
    refine fp_ite ?_ ?_
    · skip
      refine fp_bnd fun _ => ?_
      exact fp_ret H1
    refine fp_ite ?_ ?_
    · skip
      refine fp_bnd fun _ => ?_
      exact fp_ret H1
    exact fp_ret H1
  · skip
    exact fp_ret H1
theorem fr_X63_packet_24 {x1 : Int} {G : Gt} {D : Dt} : Fp S_X63_packet D (fun o => o.2) (q_X63_packet_24 x1 G D) := by
  unfold q_X63_packet_24
  exact Fp.tr Fr.rf (fr_X63_packet_29)
theorem fr_X63_packet {x1 : Int} {G : Gt} {D : Dt} : Fp S_X63_packet D (fun o => o.2) (q_X63_packet x1 G D) := by
  unfold q_X63_packet
  refine fp_ite ?_ ?_
  · skip
    exact Fp.tr Fr.rf (fr_X63_packet_24)
  · skip
    refine fp_ite ?_ ?_
    · skip
      exact Fp.tr Fr.rf (fr_X63_packet_24)
    · skip
      refine fp_ite ?_ ?_
      · skip
        exact Fp.tr Fr.rf (fr_X63_packet_24)
      · skip
        refine fp_ite ?_ ?_
        · skip
          exact Fp.tr Fr.rf (fr_X63_packet_29)
        · skip
          exact Fp.tr Fr.rf (fr_X63_packet_24)
