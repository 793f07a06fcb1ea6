/-! method links: what a call enters; methods: their code -/
set_option maxRecDepth 100000
def yL_law : MethodName := ⟨"SafeCodeLaw", "law", "([I)Z"⟩
def yn (m : Nat) : MethodName := bif Nat.ble m 199 then (bif Nat.ble m 99 then (bif Nat.ble m 49 then (bif Nat.ble m 24 then (bif Nat.ble m 11 then (bif Nat.ble m 5 then (bif Nat.ble m 2 then (bif Nat.ble m 0 then (bif Nat.beq m 0 then yX0_init else yL_law) else (bif Nat.ble m 1 then (bif Nat.beq m 1 then yX0_feed else yL_law) else (bif Nat.beq m 2 then yX0_put else yL_law))) else (bif Nat.ble m 3 then (bif Nat.beq m 3 then yX0_end else yL_law) else (bif Nat.ble m 4 then (bif Nat.beq m 4 then yX0_load else yL_law) else (bif Nat.beq m 5 then yX0_faultAt else yL_law)))) else (bif Nat.ble m 8 then (bif Nat.ble m 6 then (bif Nat.beq m 6 then yX0_size else yL_law) else (bif Nat.ble m 7 then (bif Nat.beq m 7 then yX0_errors else yL_law) else (bif Nat.beq m 8 then yX0_isCode else yL_law))) else (bif Nat.ble m 9 then (bif Nat.beq m 9 then yX0_escapes else yL_law) else (bif Nat.ble m 10 then (bif Nat.beq m 10 then yX0_ends else yL_law) else (bif Nat.beq m 11 then yX0_kind else yL_law))))) else (bif Nat.ble m 17 then (bif Nat.ble m 14 then (bif Nat.ble m 12 then (bif Nat.beq m 12 then yX0_isSlot else yL_law) else (bif Nat.ble m 13 then (bif Nat.beq m 13 then yX0_low else yL_law) else (bif Nat.beq m 14 then yX0_high else yL_law))) else (bif Nat.ble m 15 then (bif Nat.beq m 15 then yX0_sites else yL_law) else (bif Nat.ble m 16 then (bif Nat.beq m 16 then yX0_fact else yL_law) else (bif Nat.beq m 17 then yX0_lengths else yL_law)))) else (bif Nat.ble m 20 then (bif Nat.ble m 18 then (bif Nat.beq m 18 then yX0_input else yL_law) else (bif Nat.ble m 19 then (bif Nat.beq m 19 then yX0_run else yL_law) else (bif Nat.beq m 20 then yX0_steps else yL_law))) else (bif Nat.ble m 22 then (bif Nat.ble m 21 then (bif Nat.beq m 21 then yX0_place else yL_law) else (bif Nat.beq m 22 then yX0_thrown else yL_law)) else (bif Nat.ble m 23 then (bif Nat.beq m 23 then yX0_written else yL_law) else (bif Nat.beq m 24 then yX0_out else yL_law)))))) else (bif Nat.ble m 36 then (bif Nat.ble m 30 then (bif Nat.ble m 27 then (bif Nat.ble m 25 then (bif Nat.beq m 25 then yX0_strays else yL_law) else (bif Nat.ble m 26 then (bif Nat.beq m 26 then yX1_init else yL_law) else (bif Nat.beq m 27 then yX1_begin else yL_law))) else (bif Nat.ble m 28 then (bif Nat.beq m 28 then yX1_at else yL_law) else (bif Nat.ble m 29 then (bif Nat.beq m 29 then yX2_init else yL_law) else (bif Nat.beq m 30 then yX2_cut else yL_law)))) else (bif Nat.ble m 33 then (bif Nat.ble m 31 then (bif Nat.beq m 31 then yX2_isRight else yL_law) else (bif Nat.ble m 32 then (bif Nat.beq m 32 then yX2_size else yL_law) else (bif Nat.beq m 33 then yX2_lineEnd else yL_law))) else (bif Nat.ble m 34 then (bif Nat.beq m 34 then yX2_isBlank else yL_law) else (bif Nat.ble m 35 then (bif Nat.beq m 35 then yX2_isMark else yL_law) else (bif Nat.beq m 36 then yX2_wordEnd else yL_law))))) else (bif Nat.ble m 42 then (bif Nat.ble m 39 then (bif Nat.ble m 37 then (bif Nat.beq m 37 then yX2_is else yL_law) else (bif Nat.ble m 38 then (bif Nat.beq m 38 then yX2_isAt else yL_law) else (bif Nat.beq m 39 then yX2_isClassName else yL_law))) else (bif Nat.ble m 40 then (bif Nat.beq m 40 then yX2_isNameAt else yL_law) else (bif Nat.ble m 41 then (bif Nat.beq m 41 then yX2_isName else yL_law) else (bif Nat.beq m 42 then yX2_isType else yL_law)))) else (bif Nat.ble m 45 then (bif Nat.ble m 43 then (bif Nat.beq m 43 then yX2_isIntBare else yL_law) else (bif Nat.ble m 44 then (bif Nat.beq m 44 then yX2_bareEnd else yL_law) else (bif Nat.beq m 45 then yX2_isArrayWord else yL_law))) else (bif Nat.ble m 47 then (bif Nat.ble m 46 then (bif Nat.beq m 46 then yX2_isNumber else yL_law) else (bif Nat.beq m 47 then yX2_value else yL_law)) else (bif Nat.ble m 48 then (bif Nat.beq m 48 then yX2_word else yL_law) else (bif Nat.beq m 49 then yX2_wordOf else yL_law))))))) else (bif Nat.ble m 74 then (bif Nat.ble m 61 then (bif Nat.ble m 55 then (bif Nat.ble m 52 then (bif Nat.ble m 50 then (bif Nat.beq m 50 then yX2_point else yL_law) else (bif Nat.ble m 51 then (bif Nat.beq m 51 then yX2_knownClass else yL_law) else (bif Nat.beq m 52 then yX2_isSamePart else yL_law))) else (bif Nat.ble m 53 then (bif Nat.beq m 53 then yX2_isArrayType else yL_law) else (bif Nat.ble m 54 then (bif Nat.beq m 54 then yX2_isSame else yL_law) else (bif Nat.beq m 55 then yX2_number else yL_law)))) else (bif Nat.ble m 58 then (bif Nat.ble m 56 then (bif Nat.beq m 56 then yX3_init else yL_law) else (bif Nat.ble m 57 then (bif Nat.beq m 57 then yX3_clear else yL_law) else (bif Nat.beq m 58 then yX3_add else yL_law))) else (bif Nat.ble m 59 then (bif Nat.beq m 59 then yX4_init else yL_law) else (bif Nat.ble m 60 then (bif Nat.beq m 60 then yX4_read else yL_law) else (bif Nat.beq m 61 then yX4_clear else yL_law))))) else (bif Nat.ble m 67 then (bif Nat.ble m 64 then (bif Nat.ble m 62 then (bif Nat.beq m 62 then yX4_must else yL_law) else (bif Nat.ble m 63 then (bif Nat.beq m 63 then yX4_member else yL_law) else (bif Nat.beq m 64 then yX4_body else yL_law))) else (bif Nat.ble m 65 then (bif Nat.beq m 65 then yX4_line else yL_law) else (bif Nat.ble m 66 then (bif Nat.beq m 66 then yX4_operands else yL_law) else (bif Nat.beq m 67 then yX5_init else yL_law)))) else (bif Nat.ble m 70 then (bif Nat.ble m 68 then (bif Nat.beq m 68 then yX5_load else yL_law) else (bif Nat.ble m 69 then (bif Nat.beq m 69 then yX5_readClass else yL_law) else (bif Nat.beq m 70 then yX5_classOf else yL_law))) else (bif Nat.ble m 72 then (bif Nat.ble m 71 then (bif Nat.beq m 71 then yX5_classAt else yL_law) else (bif Nat.beq m 72 then yX5_must else yL_law)) else (bif Nat.ble m 73 then (bif Nat.beq m 73 then yX5_readMember else yL_law) else (bif Nat.beq m 74 then yX5_readField else yL_law)))))) else (bif Nat.ble m 86 then (bif Nat.ble m 80 then (bif Nat.ble m 77 then (bif Nat.ble m 75 then (bif Nat.beq m 75 then yX5_field else yL_law) else (bif Nat.ble m 76 then (bif Nat.beq m 76 then yX5_typeMust else yL_law) else (bif Nat.beq m 77 then yX5_typeOf else yL_law))) else (bif Nat.ble m 78 then (bif Nat.beq m 78 then yX5_fieldsAbove else yL_law) else (bif Nat.ble m 79 then (bif Nat.beq m 79 then yX5_readHead else yL_law) else (bif Nat.beq m 80 then yX5_nearestBody else yL_law)))) else (bif Nat.ble m 83 then (bif Nat.ble m 81 then (bif Nat.beq m 81 then yX5_bodyIn else yL_law) else (bif Nat.ble m 82 then (bif Nat.beq m 82 then yX5_isSameHead else yL_law) else (bif Nat.beq m 83 then yX5_firstType else yL_law))) else (bif Nat.ble m 84 then (bif Nat.beq m 84 then yX5_readBody else yL_law) else (bif Nat.ble m 85 then (bif Nat.beq m 85 then yX5_linesBefore else yL_law) else (bif Nat.beq m 86 then yX5_findLabels else yL_law))))) else (bif Nat.ble m 92 then (bif Nat.ble m 89 then (bif Nat.ble m 87 then (bif Nat.beq m 87 then yX5_readCatch else yL_law) else (bif Nat.ble m 88 then (bif Nat.beq m 88 then yX5_label else yL_law) else (bif Nat.beq m 89 then yX5_readInstruction else yL_law))) else (bif Nat.ble m 90 then (bif Nat.beq m 90 then yX5_operand else yL_law) else (bif Nat.ble m 91 then (bif Nat.beq m 91 then yX5_member else yL_law) else (bif Nat.beq m 92 then yX5_findMain else yL_law)))) else (bif Nat.ble m 95 then (bif Nat.ble m 93 then (bif Nat.beq m 93 then yX6_init else yL_law) else (bif Nat.ble m 94 then (bif Nat.beq m 94 then yX6_check else yL_law) else (bif Nat.beq m 95 then yX6_findHeights else yL_law))) else (bif Nat.ble m 97 then (bif Nat.ble m 96 then (bif Nat.beq m 96 then yX6_reach else yL_law) else (bif Nat.beq m 97 then yX6_spread else yL_law)) else (bif Nat.ble m 98 then (bif Nat.beq m 98 then yX6_covers else yL_law) else (bif Nat.beq m 99 then yX6_findTypes else yL_law)))))))) else (bif Nat.ble m 149 then (bif Nat.ble m 124 then (bif Nat.ble m 111 then (bif Nat.ble m 105 then (bif Nat.ble m 102 then (bif Nat.ble m 100 then (bif Nat.beq m 100 then yX6_join else yL_law) else (bif Nat.ble m 101 then (bif Nat.beq m 101 then yX6_caught else yL_law) else (bif Nat.beq m 102 then yX6_take else yL_law))) else (bif Nat.ble m 103 then (bif Nat.beq m 103 then yX6_push else yL_law) else (bif Nat.ble m 104 then (bif Nat.beq m 104 then yX6_act else yL_law) else (bif Nat.beq m 105 then yX6_elementOf else yL_law)))) else (bif Nat.ble m 108 then (bif Nat.ble m 106 then (bif Nat.beq m 106 then yX6_isRight else yL_law) else (bif Nat.ble m 107 then (bif Nat.beq m 107 then yX6_top else yL_law) else (bif Nat.beq m 108 then yX6_isRef else yL_law))) else (bif Nat.ble m 109 then (bif Nat.beq m 109 then yX6_isRow else yL_law) else (bif Nat.ble m 110 then (bif Nat.beq m 110 then yX6_areArguments else yL_law) else (bif Nat.beq m 111 then yX6_areInts else yL_law))))) else (bif Nat.ble m 117 then (bif Nat.ble m 114 then (bif Nat.ble m 112 then (bif Nat.beq m 112 then yX7_init else yL_law) else (bif Nat.ble m 113 then (bif Nat.beq m 113 then yX7_seek else yL_law) else (bif Nat.beq m 114 then yX7_begin else yL_law))) else (bif Nat.ble m 115 then (bif Nat.beq m 115 then yX7_sitesOf else yL_law) else (bif Nat.ble m 116 then (bif Nat.beq m 116 then yX7_enter else yL_law) else (bif Nat.beq m 117 then yX7_flow else yL_law)))) else (bif Nat.ble m 120 then (bif Nat.ble m 118 then (bif Nat.beq m 118 then yX7_wake else yL_law) else (bif Nat.ble m 119 then (bif Nat.beq m 119 then yX7_act else yL_law) else (bif Nat.beq m 120 then yX7_branch else yL_law))) else (bif Nat.ble m 122 then (bif Nat.ble m 121 then (bif Nat.beq m 121 then yX7_pop else yL_law) else (bif Nat.beq m 122 then yX7_way else yL_law)) else (bif Nat.ble m 123 then (bif Nat.beq m 123 then yX7_nullWay else yL_law) else (bif Nat.beq m 124 then yX7_objects else yL_law)))))) else (bif Nat.ble m 136 then (bif Nat.ble m 130 then (bif Nat.ble m 127 then (bif Nat.ble m 125 then (bif Nat.beq m 125 then yX7_keep else yL_law) else (bif Nat.ble m 126 then (bif Nat.beq m 126 then yX7_sameWay else yL_law) else (bif Nat.beq m 127 then yX7_contrary else yL_law))) else (bif Nat.ble m 128 then (bif Nat.beq m 128 then yX7_relate else yL_law) else (bif Nat.ble m 129 then (bif Nat.beq m 129 then yX7_cut else yL_law) else (bif Nat.beq m 130 then yX7_bit else yL_law)))) else (bif Nat.ble m 133 then (bif Nat.ble m 131 then (bif Nat.beq m 131 then yX7_learn else yL_law) else (bif Nat.ble m 132 then (bif Nat.beq m 132 then yX7_compute else yL_law) else (bif Nat.beq m 133 then yX7_pushRange else yL_law))) else (bif Nat.ble m 134 then (bif Nat.beq m 134 then yX7_push else yL_law) else (bif Nat.ble m 135 then (bif Nat.beq m 135 then yX7_raise else yL_law) else (bif Nat.beq m 136 then yX7_heap else yL_law))))) else (bif Nat.ble m 142 then (bif Nat.ble m 139 then (bif Nat.ble m 137 then (bif Nat.beq m 137 then yX7_makeObject else yL_law) else (bif Nat.ble m 138 then (bif Nat.beq m 138 then yX7_zero else yL_law) else (bif Nat.beq m 139 then yX7_wakeAll else yL_law))) else (bif Nat.ble m 140 then (bif Nat.beq m 140 then yX7_pushSites else yL_law) else (bif Nat.ble m 141 then (bif Nat.beq m 141 then yX7_makeArray else yL_law) else (bif Nat.beq m 142 then yX7_length else yL_law)))) else (bif Nat.ble m 145 then (bif Nat.ble m 143 then (bif Nat.beq m 143 then yX7_dereference else yL_law) else (bif Nat.ble m 144 then (bif Nat.beq m 144 then yX7_hasNull else yL_law) else (bif Nat.beq m 145 then yX7_loadAll else yL_law))) else (bif Nat.ble m 147 then (bif Nat.ble m 146 then (bif Nat.beq m 146 then yX7_joined else yL_law) else (bif Nat.beq m 147 then yX7_index else yL_law)) else (bif Nat.ble m 148 then (bif Nat.beq m 148 then yX7_storeElements else yL_law) else (bif Nat.beq m 149 then yX7_storeFields else yL_law))))))) else (bif Nat.ble m 174 then (bif Nat.ble m 161 then (bif Nat.ble m 155 then (bif Nat.ble m 152 then (bif Nat.ble m 150 then (bif Nat.beq m 150 then yX7_cast else yL_law) else (bif Nat.ble m 151 then (bif Nat.beq m 151 then yX7_is else yL_law) else (bif Nat.beq m 152 then yX7_call else yL_law))) else (bif Nat.ble m 153 then (bif Nat.beq m 153 then yX7_pass else yL_law) else (bif Nat.ble m 154 then (bif Nat.beq m 154 then yX7_simple else yL_law) else (bif Nat.beq m 155 then yX7_increase else yL_law)))) else (bif Nat.ble m 158 then (bif Nat.ble m 156 then (bif Nat.beq m 156 then yX7_throwing else yL_law) else (bif Nat.ble m 157 then (bif Nat.beq m 157 then yX7_end else yL_law) else (bif Nat.beq m 158 then yX7_spread else yL_law))) else (bif Nat.ble m 159 then (bif Nat.beq m 159 then yX7_errorsOf else yL_law) else (bif Nat.ble m 160 then (bif Nat.beq m 160 then yX8_init else yL_law) else (bif Nat.beq m 161 then yX8_begin else yL_law))))) else (bif Nat.ble m 167 then (bif Nat.ble m 164 then (bif Nat.ble m 162 then (bif Nat.beq m 162 then yX8_add else yL_law) else (bif Nat.ble m 163 then (bif Nat.beq m 163 then yX8_around else yL_law) else (bif Nat.beq m 164 then yX8_down else yL_law))) else (bif Nat.ble m 165 then (bif Nat.beq m 165 then yX8_up else yL_law) else (bif Nat.ble m 166 then (bif Nat.beq m 166 then yX9_init else yL_law) else (bif Nat.beq m 167 then yX9_negate else yL_law)))) else (bif Nat.ble m 170 then (bif Nat.ble m 168 then (bif Nat.beq m 168 then yX9_put else yL_law) else (bif Nat.ble m 169 then (bif Nat.beq m 169 then yX9_work else yL_law) else (bif Nat.beq m 170 then yX9_product else yL_law))) else (bif Nat.ble m 172 then (bif Nat.ble m 171 then (bif Nat.beq m 171 then yX9_quotient else yL_law) else (bif Nat.beq m 172 then yX9_divide else yL_law)) else (bif Nat.ble m 173 then (bif Nat.beq m 173 then yX9_rest else yL_law) else (bif Nat.beq m 174 then yX9_bits else yL_law)))))) else (bif Nat.ble m 186 then (bif Nat.ble m 180 then (bif Nat.ble m 177 then (bif Nat.ble m 175 then (bif Nat.beq m 175 then yX10_init else yL_law) else (bif Nat.ble m 176 then (bif Nat.beq m 176 then yX10_unset else yL_law) else (bif Nat.beq m 177 then yX10_putValue else yL_law))) else (bif Nat.ble m 178 then (bif Nat.beq m 178 then yX10_joinValue else yL_law) else (bif Nat.ble m 179 then (bif Nat.beq m 179 then yX10_putRange else yL_law) else (bif Nat.beq m 180 then yX10_putSites else yL_law)))) else (bif Nat.ble m 183 then (bif Nat.ble m 181 then (bif Nat.beq m 181 then yX11_init else yL_law) else (bif Nat.ble m 182 then (bif Nat.beq m 182 then yX11_plain else yL_law) else (bif Nat.beq m 183 then yX11_put else yL_law))) else (bif Nat.ble m 184 then (bif Nat.beq m 184 then yX11_join else yL_law) else (bif Nat.ble m 185 then (bif Nat.beq m 185 then yX11_forget else yL_law) else (bif Nat.beq m 186 then yX12_init else yL_law))))) else (bif Nat.ble m 192 then (bif Nat.ble m 189 then (bif Nat.ble m 187 then (bif Nat.beq m 187 then yX12_clear else yL_law) else (bif Nat.ble m 188 then (bif Nat.beq m 188 then yX12_add else yL_law) else (bif Nat.beq m 189 then yX13_init else yL_law))) else (bif Nat.ble m 190 then (bif Nat.beq m 190 then yX13_run else yL_law) else (bif Nat.ble m 191 then (bif Nat.beq m 191 then yX13_enter else yL_law) else (bif Nat.beq m 192 then yX13_step else yL_law)))) else (bif Nat.ble m 195 then (bif Nat.ble m 193 then (bif Nat.beq m 193 then yX13_compute else yL_law) else (bif Nat.ble m 194 then (bif Nat.beq m 194 then yX13_pop else yL_law) else (bif Nat.beq m 195 then yX13_push else yL_law))) else (bif Nat.ble m 197 then (bif Nat.ble m 196 then (bif Nat.beq m 196 then yX13_raise else yL_law) else (bif Nat.beq m 197 then yX13_make else yL_law)) else (bif Nat.ble m 198 then (bif Nat.beq m 198 then yX13_unwind else yL_law) else (bif Nat.beq m 199 then yX13_made else yL_law))))))))) else (bif Nat.ble m 299 then (bif Nat.ble m 249 then (bif Nat.ble m 224 then (bif Nat.ble m 211 then (bif Nat.ble m 205 then (bif Nat.ble m 202 then (bif Nat.ble m 200 then (bif Nat.beq m 200 then yX13_jump else yL_law) else (bif Nat.ble m 201 then (bif Nat.beq m 201 then yX13_heap else yL_law) else (bif Nat.beq m 202 then yX13_give else yL_law))) else (bif Nat.ble m 203 then (bif Nat.beq m 203 then yX13_makeArray else yL_law) else (bif Nat.ble m 204 then (bif Nat.beq m 204 then yX13_wrong else yL_law) else (bif Nat.beq m 205 then yX13_length else yL_law)))) else (bif Nat.ble m 208 then (bif Nat.ble m 206 then (bif Nat.beq m 206 then yX13_element else yL_law) else (bif Nat.ble m 207 then (bif Nat.beq m 207 then yX13_isOf else yL_law) else (bif Nat.beq m 208 then yX13_field else yL_law))) else (bif Nat.ble m 209 then (bif Nat.beq m 209 then yX13_cast else yL_law) else (bif Nat.ble m 210 then (bif Nat.beq m 210 then yX13_call else yL_law) else (bif Nat.beq m 211 then yX13_local else yL_law))))) else (bif Nat.ble m 217 then (bif Nat.ble m 214 then (bif Nat.ble m 212 then (bif Nat.beq m 212 then yX13_leave else yL_law) else (bif Nat.ble m 213 then (bif Nat.beq m 213 then yX13_simple else yL_law) else (bif Nat.beq m 214 then yX14_init else yL_law))) else (bif Nat.ble m 215 then (bif Nat.beq m 215 then yX14_clear else yL_law) else (bif Nat.ble m 216 then (bif Nat.beq m 216 then yX14_isClassBelow else yL_law) else (bif Nat.beq m 217 then yX14_goesOn else yL_law)))) else (bif Nat.ble m 220 then (bif Nat.ble m 218 then (bif Nat.beq m 218 then yX14_takes else yL_law) else (bif Nat.ble m 219 then (bif Nat.beq m 219 then yX14_leaves else yL_law) else (bif Nat.beq m 220 then yX14_isJump else yL_law))) else (bif Nat.ble m 222 then (bif Nat.ble m 221 then (bif Nat.beq m 221 then yX14_join else yL_law) else (bif Nat.beq m 222 then yX14_isBelow else yL_law)) else (bif Nat.ble m 223 then (bif Nat.beq m 223 then yX14_classJoin else yL_law) else (bif Nat.beq m 224 then yX14_isArray else yL_law)))))) else (bif Nat.ble m 236 then (bif Nat.ble m 230 then (bif Nat.ble m 227 then (bif Nat.ble m 225 then (bif Nat.beq m 225 then yX14_element else yL_law) else (bif Nat.ble m 226 then (bif Nat.beq m 226 then yX14_method else yL_law) else (bif Nat.beq m 227 then yX15_init else yL_law))) else (bif Nat.ble m 228 then (bif Nat.beq m 228 then yX15_feed else yL_law) else (bif Nat.ble m 229 then (bif Nat.beq m 229 then yX15_word else yL_law) else (bif Nat.beq m 230 then yX15_end else yL_law)))) else (bif Nat.ble m 233 then (bif Nat.ble m 231 then (bif Nat.beq m 231 then yX15_load else yL_law) else (bif Nat.ble m 232 then (bif Nat.beq m 232 then yX15_fault else yL_law) else (bif Nat.beq m 233 then yX15_cut else yL_law))) else (bif Nat.ble m 234 then (bif Nat.beq m 234 then yX15_isProgram else yL_law) else (bif Nat.ble m 235 then (bif Nat.beq m 235 then yX15_is else yL_law) else (bif Nat.beq m 236 then yX15_takes else yL_law))))) else (bif Nat.ble m 242 then (bif Nat.ble m 239 then (bif Nat.ble m 237 then (bif Nat.beq m 237 then yX15_isClassName else yL_law) else (bif Nat.ble m 238 then (bif Nat.beq m 238 then yX15_isName else yL_law) else (bif Nat.beq m 239 then yX15_isMember else yL_law))) else (bif Nat.ble m 240 then (bif Nat.beq m 240 then yX15_isSmallName else yL_law) else (bif Nat.ble m 241 then (bif Nat.beq m 241 then yX15_isType else yL_law) else (bif Nat.beq m 242 then yX15_isArray else yL_law)))) else (bif Nat.ble m 245 then (bif Nat.ble m 243 then (bif Nat.beq m 243 then yX15_isNumber else yL_law) else (bif Nat.ble m 244 then (bif Nat.beq m 244 then yX15_number else yL_law) else (bif Nat.beq m 245 then yX15_isLine else yL_law))) else (bif Nat.ble m 247 then (bif Nat.ble m 246 then (bif Nat.beq m 246 then yX15_isLabel else yL_law) else (bif Nat.beq m 247 then yX15_opOf else yL_law)) else (bif Nat.ble m 248 then (bif Nat.beq m 248 then yX15_among else yL_law) else (bif Nat.beq m 249 then yX15_isReference else yL_law))))))) else (bif Nat.ble m 274 then (bif Nat.ble m 261 then (bif Nat.ble m 255 then (bif Nat.ble m 252 then (bif Nat.ble m 250 then (bif Nat.beq m 250 then yX15_point else yL_law) else (bif Nat.ble m 251 then (bif Nat.beq m 251 then yX15_classNames else yL_law) else (bif Nat.beq m 252 then yX15_classOfToken else yL_law))) else (bif Nat.ble m 253 then (bif Nat.beq m 253 then yX15_classOf else yL_law) else (bif Nat.ble m 254 then (bif Nat.beq m 254 then yX15_classCount else yL_law) else (bif Nat.beq m 255 then yX15_isSame else yL_law)))) else (bif Nat.ble m 258 then (bif Nat.ble m 256 then (bif Nat.beq m 256 then yX15_wrong else yL_law) else (bif Nat.ble m 257 then (bif Nat.beq m 257 then yX15_behind else yL_law) else (bif Nat.beq m 258 then yX15_members else yL_law))) else (bif Nat.ble m 259 then (bif Nat.beq m 259 then yX15_field else yL_law) else (bif Nat.ble m 260 then (bif Nat.beq m 260 then yX15_fieldOf else yL_law) else (bif Nat.beq m 261 then yX15_isAtOrBelow else yL_law))))) else (bif Nat.ble m 267 then (bif Nat.ble m 264 then (bif Nat.ble m 262 then (bif Nat.beq m 262 then yX15_typeOf else yL_law) else (bif Nat.ble m 263 then (bif Nat.beq m 263 then yX15_body else yL_law) else (bif Nat.beq m 264 then yX15_bodyOf else yL_law))) else (bif Nat.ble m 265 then (bif Nat.beq m 265 then yX15_isSameRow else yL_law) else (bif Nat.ble m 266 then (bif Nat.beq m 266 then yX15_isSameToken else yL_law) else (bif Nat.beq m 267 then yX15_behindMember else yL_law)))) else (bif Nat.ble m 270 then (bif Nat.ble m 268 then (bif Nat.beq m 268 then yX15_lines else yL_law) else (bif Nat.ble m 269 then (bif Nat.beq m 269 then yX15_linesOf else yL_law) else (bif Nat.beq m 270 then yX15_lineLength else yL_law))) else (bif Nat.ble m 272 then (bif Nat.ble m 271 then (bif Nat.beq m 271 then yX15_label else yL_law) else (bif Nat.beq m 272 then yX15_catchLine else yL_law)) else (bif Nat.ble m 273 then (bif Nat.beq m 273 then yX15_labelAt else yL_law) else (bif Nat.beq m 274 then yX15_code else yL_law)))))) else (bif Nat.ble m 286 then (bif Nat.ble m 280 then (bif Nat.ble m 277 then (bif Nat.ble m 275 then (bif Nat.beq m 275 then yX15_thresholds else yL_law) else (bif Nat.ble m 276 then (bif Nat.beq m 276 then yX15_threshold else yL_law) else (bif Nat.beq m 277 then yX15_localStep else yL_law))) else (bif Nat.ble m 278 then (bif Nat.beq m 278 then yX15_madeStep else yL_law) else (bif Nat.ble m 279 then (bif Nat.beq m 279 then yX15_reference else yL_law) else (bif Nat.beq m 280 then yX15_settled else yL_law)))) else (bif Nat.ble m 283 then (bif Nat.ble m 281 then (bif Nat.beq m 281 then yX15_heights else yL_law) else (bif Nat.ble m 282 then (bif Nat.beq m 282 then yX15_goodHeights else yL_law) else (bif Nat.beq m 283 then yX15_howMany else yL_law))) else (bif Nat.ble m 284 then (bif Nat.beq m 284 then yX15_leaves else yL_law) else (bif Nat.ble m 285 then (bif Nat.beq m 285 then yX15_hasNext else yL_law) else (bif Nat.beq m 286 then yX15_added else yL_law))))) else (bif Nat.ble m 292 then (bif Nat.ble m 289 then (bif Nat.ble m 287 then (bif Nat.beq m 287 then yX15_hasLabel else yL_law) else (bif Nat.ble m 288 then (bif Nat.beq m 288 then yX15_covers else yL_law) else (bif Nat.beq m 289 then yX15_types else yL_law))) else (bif Nat.ble m 290 then (bif Nat.beq m 290 then yX15_typesOn else yL_law) else (bif Nat.ble m 291 then (bif Nat.beq m 291 then yX15_typesAt else yL_law) else (bif Nat.beq m 292 then yX15_typesTo else yL_law)))) else (bif Nat.ble m 295 then (bif Nat.ble m 293 then (bif Nat.beq m 293 then yX15_joined else yL_law) else (bif Nat.ble m 294 then (bif Nat.beq m 294 then yX15_isBelow else yL_law) else (bif Nat.beq m 295 then yX15_isClass else yL_law))) else (bif Nat.ble m 297 then (bif Nat.ble m 296 then (bif Nat.beq m 296 then yX15_typesBehind else yL_law) else (bif Nat.beq m 297 then yX15_leave else yL_law)) else (bif Nat.ble m 298 then (bif Nat.beq m 298 then yX15_elementOf else yL_law) else (bif Nat.beq m 299 then yX15_fits else yL_law)))))))) else (bif Nat.ble m 349 then (bif Nat.ble m 324 then (bif Nat.ble m 311 then (bif Nat.ble m 305 then (bif Nat.ble m 302 then (bif Nat.ble m 300 then (bif Nat.beq m 300 then yX15_isReferenceType else yL_law) else (bif Nat.ble m 301 then (bif Nat.beq m 301 then yX15_isArrayType else yL_law) else (bif Nat.beq m 302 then yX15_isElement else yL_law))) else (bif Nat.ble m 303 then (bif Nat.beq m 303 then yX15_areArguments else yL_law) else (bif Nat.ble m 304 then (bif Nat.beq m 304 then yX15_prove else yL_law) else (bif Nat.beq m 305 then yX15_begin else yL_law)))) else (bif Nat.ble m 308 then (bif Nat.ble m 306 then (bif Nat.beq m 306 then yX15_clear else yL_law) else (bif Nat.ble m 307 then (bif Nat.beq m 307 then yX15_bring else yL_law) else (bif Nat.beq m 308 then yX15_joinSlot else yL_law))) else (bif Nat.ble m 309 then (bif Nat.beq m 309 then yX15_look else yL_law) else (bif Nat.ble m 310 then (bif Nat.beq m 310 then yX15_fetch else yL_law) else (bif Nat.beq m 311 then yX15_way else yL_law))))) else (bif Nat.ble m 317 then (bif Nat.ble m 314 then (bif Nat.ble m 312 then (bif Nat.beq m 312 then yX15_keeps else yL_law) else (bif Nat.ble m 313 then (bif Nat.beq m 313 then yX15_ordered else yL_law) else (bif Nat.beq m 314 then yX15_notBelow else yL_law))) else (bif Nat.ble m 315 then (bif Nat.beq m 315 then yX15_notAbove else yL_law) else (bif Nat.ble m 316 then (bif Nat.beq m 316 then yX15_alike else yL_law) else (bif Nat.beq m 317 then yX15_apart else yL_law)))) else (bif Nat.ble m 320 then (bif Nat.ble m 318 then (bif Nat.beq m 318 then yX15_without else yL_law) else (bif Nat.ble m 319 then (bif Nat.beq m 319 then yX15_rangeToLocal else yL_law) else (bif Nat.beq m 320 then yX15_goOn else yL_law))) else (bif Nat.ble m 322 then (bif Nat.ble m 321 then (bif Nat.beq m 321 then yX15_contrary else yL_law) else (bif Nat.beq m 322 then yX15_goesBehind else yL_law)) else (bif Nat.ble m 323 then (bif Nat.beq m 323 then yX15_leaveRange else yL_law) else (bif Nat.beq m 324 then yX15_range else yL_law)))))) else (bif Nat.ble m 336 then (bif Nat.ble m 330 then (bif Nat.ble m 327 then (bif Nat.ble m 325 then (bif Nat.beq m 325 then yX15_leaveSites else yL_law) else (bif Nat.ble m 326 then (bif Nat.beq m 326 then yX15_put else yL_law) else (bif Nat.beq m 327 then yX15_changing else yL_law))) else (bif Nat.ble m 328 then (bif Nat.beq m 328 then yX15_made else yL_law) else (bif Nat.ble m 329 then (bif Nat.beq m 329 then yX15_joinNothing else yL_law) else (bif Nat.beq m 330 then yX15_joinRange else yL_law)))) else (bif Nat.ble m 333 then (bif Nat.ble m 331 then (bif Nat.beq m 331 then yX15_joinSites else yL_law) else (bif Nat.ble m 332 then (bif Nat.beq m 332 then yX15_madeArray else yL_law) else (bif Nat.beq m 333 then yX15_lengthOf else yL_law))) else (bif Nat.ble m 334 then (bif Nat.beq m 334 then yX15_dereference else yL_law) else (bif Nat.ble m 335 then (bif Nat.beq m 335 then yX15_leaveValues else yL_law) else (bif Nat.beq m 336 then yX15_element else yL_law))))) else (bif Nat.ble m 342 then (bif Nat.ble m 339 then (bif Nat.ble m 337 then (bif Nat.beq m 337 then yX15_index else yL_law) else (bif Nat.ble m 338 then (bif Nat.beq m 338 then yX15_joinSlotInto else yL_law) else (bif Nat.beq m 339 then yX15_sitesBelow else yL_law))) else (bif Nat.ble m 340 then (bif Nat.beq m 340 then yX15_fieldStep else yL_law) else (bif Nat.ble m 341 then (bif Nat.beq m 341 then yX15_ofType else yL_law) else (bif Nat.beq m 342 then yX15_call else yL_law)))) else (bif Nat.ble m 345 then (bif Nat.ble m 343 then (bif Nat.beq m 343 then yX15_given else yL_law) else (bif Nat.ble m 344 then (bif Nat.beq m 344 then yX15_numbers else yL_law) else (bif Nat.beq m 345 then yX15_product else yL_law))) else (bif Nat.ble m 347 then (bif Nat.ble m 346 then (bif Nat.beq m 346 then yX15_quotient else yL_law) else (bif Nat.beq m 347 then yX15_raisedByZero else yL_law)) else (bif Nat.ble m 348 then (bif Nat.beq m 348 then yX15_rest else yL_law) else (bif Nat.beq m 349 then yX15_faultAt else yL_law))))))) else (bif Nat.ble m 374 then (bif Nat.ble m 361 then (bif Nat.ble m 355 then (bif Nat.ble m 352 then (bif Nat.ble m 350 then (bif Nat.beq m 350 then yX15_size else yL_law) else (bif Nat.ble m 351 then (bif Nat.beq m 351 then yX15_errors else yL_law) else (bif Nat.beq m 352 then yX15_isCode else yL_law))) else (bif Nat.ble m 353 then (bif Nat.beq m 353 then yX15_escapes else yL_law) else (bif Nat.ble m 354 then (bif Nat.beq m 354 then yX15_ends else yL_law) else (bif Nat.beq m 355 then yX15_kind else yL_law)))) else (bif Nat.ble m 358 then (bif Nat.ble m 356 then (bif Nat.beq m 356 then yX15_slot else yL_law) else (bif Nat.ble m 357 then (bif Nat.beq m 357 then yX15_low else yL_law) else (bif Nat.beq m 358 then yX15_high else yL_law))) else (bif Nat.ble m 359 then (bif Nat.beq m 359 then yX15_sites else yL_law) else (bif Nat.ble m 360 then (bif Nat.beq m 360 then yX15_fact else yL_law) else (bif Nat.beq m 361 then yX15_lengths else yL_law))))) else (bif Nat.ble m 367 then (bif Nat.ble m 364 then (bif Nat.ble m 362 then (bif Nat.beq m 362 then yX15_input else yL_law) else (bif Nat.ble m 363 then (bif Nat.beq m 363 then yX15_run else yL_law) else (bif Nat.beq m 364 then yX15_enter else yL_law))) else (bif Nat.ble m 365 then (bif Nat.beq m 365 then yX15_holds else yL_law) else (bif Nat.ble m 366 then (bif Nat.beq m 366 then yX15_local else yL_law) else (bif Nat.beq m 367 then yX15_isHeld else yL_law)))) else (bif Nat.ble m 370 then (bif Nat.ble m 368 then (bif Nat.beq m 368 then yX15_isInt else yL_law) else (bif Nat.ble m 369 then (bif Nat.beq m 369 then yX15_siteOf else yL_law) else (bif Nat.beq m 370 then yX15_objectOf else yL_law))) else (bif Nat.ble m 372 then (bif Nat.ble m 371 then (bif Nat.beq m 371 then yX15_isArrayValue else yL_law) else (bif Nat.beq m 372 then yX15_isObject else yL_law)) else (bif Nat.ble m 373 then (bif Nat.beq m 373 then yX15_step else yL_law) else (bif Nat.beq m 374 then yX15_push else yL_law)))))) else (bif Nat.ble m 386 then (bif Nat.ble m 380 then (bif Nat.ble m 377 then (bif Nat.ble m 375 then (bif Nat.beq m 375 then yX15_pop else yL_law) else (bif Nat.ble m 376 then (bif Nat.beq m 376 then yX15_reckon else yL_law) else (bif Nat.beq m 377 then yX15_raise else yL_law))) else (bif Nat.ble m 378 then (bif Nat.beq m 378 then yX15_object else yL_law) else (bif Nat.ble m 379 then (bif Nat.beq m 379 then yX15_ended else yL_law) else (bif Nat.beq m 380 then yX15_toss else yL_law)))) else (bif Nat.ble m 383 then (bif Nat.ble m 381 then (bif Nat.beq m 381 then yX15_next else yL_law) else (bif Nat.ble m 382 then (bif Nat.beq m 382 then yX15_branch else yL_law) else (bif Nat.beq m 383 then yX15_objectStep else yL_law))) else (bif Nat.ble m 384 then (bif Nat.beq m 384 then yX15_make else yL_law) else (bif Nat.ble m 385 then (bif Nat.beq m 385 then yX15_elementStep else yL_law) else (bif Nat.beq m 386 then yX15_callStep else yL_law))))) else (bif Nat.ble m 392 then (bif Nat.ble m 389 then (bif Nat.ble m 387 then (bif Nat.beq m 387 then yX15_steps else yL_law) else (bif Nat.ble m 388 then (bif Nat.beq m 388 then yX15_place else yL_law) else (bif Nat.beq m 389 then yX15_thrown else yL_law))) else (bif Nat.ble m 390 then (bif Nat.beq m 390 then yX15_written else yL_law) else (bif Nat.ble m 391 then (bif Nat.beq m 391 then yX15_out else yL_law) else (bif Nat.beq m 392 then yX15_strays else yL_law)))) else (bif Nat.ble m 395 then (bif Nat.ble m 393 then (bif Nat.beq m 393 then yX16_init else yL_law) else (bif Nat.ble m 394 then (bif Nat.beq m 394 then yJ5_min else yL_law) else (bif Nat.beq m 395 then yJ5_max else yL_law))) else (bif Nat.ble m 397 then (bif Nat.ble m 396 then (bif Nat.beq m 396 then yJ5_max_2 else yL_law) else (bif Nat.beq m 397 then yJ5_min_2 else yL_law)) else (bif Nat.ble m 398 then (bif Nat.beq m 398 then yJ5_abs else yL_law) else (bif Nat.beq m 399 then yL_law else yL_law)))))))))
def cod (m : Nat) : ByteArray := bif Nat.ble m 199 then (bif Nat.ble m 99 then (bif Nat.ble m 49 then (bif Nat.ble m 24 then (bif Nat.ble m 11 then (bif Nat.ble m 5 then (bif Nat.ble m 2 then (bif Nat.ble m 0 then (bif Nat.beq m 0 then cX0_init else cL_law) else (bif Nat.ble m 1 then (bif Nat.beq m 1 then cX0_feed else cL_law) else (bif Nat.beq m 2 then cX0_put else cL_law))) else (bif Nat.ble m 3 then (bif Nat.beq m 3 then cX0_end else cL_law) else (bif Nat.ble m 4 then (bif Nat.beq m 4 then cX0_load else cL_law) else (bif Nat.beq m 5 then cX0_faultAt else cL_law)))) else (bif Nat.ble m 8 then (bif Nat.ble m 6 then (bif Nat.beq m 6 then cX0_size else cL_law) else (bif Nat.ble m 7 then (bif Nat.beq m 7 then cX0_errors else cL_law) else (bif Nat.beq m 8 then cX0_isCode else cL_law))) else (bif Nat.ble m 9 then (bif Nat.beq m 9 then cX0_escapes else cL_law) else (bif Nat.ble m 10 then (bif Nat.beq m 10 then cX0_ends else cL_law) else (bif Nat.beq m 11 then cX0_kind else cL_law))))) else (bif Nat.ble m 17 then (bif Nat.ble m 14 then (bif Nat.ble m 12 then (bif Nat.beq m 12 then cX0_isSlot else cL_law) else (bif Nat.ble m 13 then (bif Nat.beq m 13 then cX0_low else cL_law) else (bif Nat.beq m 14 then cX0_high else cL_law))) else (bif Nat.ble m 15 then (bif Nat.beq m 15 then cX0_sites else cL_law) else (bif Nat.ble m 16 then (bif Nat.beq m 16 then cX0_fact else cL_law) else (bif Nat.beq m 17 then cX0_lengths else cL_law)))) else (bif Nat.ble m 20 then (bif Nat.ble m 18 then (bif Nat.beq m 18 then cX0_input else cL_law) else (bif Nat.ble m 19 then (bif Nat.beq m 19 then cX0_run else cL_law) else (bif Nat.beq m 20 then cX0_steps else cL_law))) else (bif Nat.ble m 22 then (bif Nat.ble m 21 then (bif Nat.beq m 21 then cX0_place else cL_law) else (bif Nat.beq m 22 then cX0_thrown else cL_law)) else (bif Nat.ble m 23 then (bif Nat.beq m 23 then cX0_written else cL_law) else (bif Nat.beq m 24 then cX0_out else cL_law)))))) else (bif Nat.ble m 36 then (bif Nat.ble m 30 then (bif Nat.ble m 27 then (bif Nat.ble m 25 then (bif Nat.beq m 25 then cX0_strays else cL_law) else (bif Nat.ble m 26 then (bif Nat.beq m 26 then cX1_init else cL_law) else (bif Nat.beq m 27 then cX1_begin else cL_law))) else (bif Nat.ble m 28 then (bif Nat.beq m 28 then cX1_at else cL_law) else (bif Nat.ble m 29 then (bif Nat.beq m 29 then cX2_init else cL_law) else (bif Nat.beq m 30 then cX2_cut else cL_law)))) else (bif Nat.ble m 33 then (bif Nat.ble m 31 then (bif Nat.beq m 31 then cX2_isRight else cL_law) else (bif Nat.ble m 32 then (bif Nat.beq m 32 then cX2_size else cL_law) else (bif Nat.beq m 33 then cX2_lineEnd else cL_law))) else (bif Nat.ble m 34 then (bif Nat.beq m 34 then cX2_isBlank else cL_law) else (bif Nat.ble m 35 then (bif Nat.beq m 35 then cX2_isMark else cL_law) else (bif Nat.beq m 36 then cX2_wordEnd else cL_law))))) else (bif Nat.ble m 42 then (bif Nat.ble m 39 then (bif Nat.ble m 37 then (bif Nat.beq m 37 then cX2_is else cL_law) else (bif Nat.ble m 38 then (bif Nat.beq m 38 then cX2_isAt else cL_law) else (bif Nat.beq m 39 then cX2_isClassName else cL_law))) else (bif Nat.ble m 40 then (bif Nat.beq m 40 then cX2_isNameAt else cL_law) else (bif Nat.ble m 41 then (bif Nat.beq m 41 then cX2_isName else cL_law) else (bif Nat.beq m 42 then cX2_isType else cL_law)))) else (bif Nat.ble m 45 then (bif Nat.ble m 43 then (bif Nat.beq m 43 then cX2_isIntBare else cL_law) else (bif Nat.ble m 44 then (bif Nat.beq m 44 then cX2_bareEnd else cL_law) else (bif Nat.beq m 45 then cX2_isArrayWord else cL_law))) else (bif Nat.ble m 47 then (bif Nat.ble m 46 then (bif Nat.beq m 46 then cX2_isNumber else cL_law) else (bif Nat.beq m 47 then cX2_value else cL_law)) else (bif Nat.ble m 48 then (bif Nat.beq m 48 then cX2_word else cL_law) else (bif Nat.beq m 49 then cX2_wordOf else cL_law))))))) else (bif Nat.ble m 74 then (bif Nat.ble m 61 then (bif Nat.ble m 55 then (bif Nat.ble m 52 then (bif Nat.ble m 50 then (bif Nat.beq m 50 then cX2_point else cL_law) else (bif Nat.ble m 51 then (bif Nat.beq m 51 then cX2_knownClass else cL_law) else (bif Nat.beq m 52 then cX2_isSamePart else cL_law))) else (bif Nat.ble m 53 then (bif Nat.beq m 53 then cX2_isArrayType else cL_law) else (bif Nat.ble m 54 then (bif Nat.beq m 54 then cX2_isSame else cL_law) else (bif Nat.beq m 55 then cX2_number else cL_law)))) else (bif Nat.ble m 58 then (bif Nat.ble m 56 then (bif Nat.beq m 56 then cX3_init else cL_law) else (bif Nat.ble m 57 then (bif Nat.beq m 57 then cX3_clear else cL_law) else (bif Nat.beq m 58 then cX3_add else cL_law))) else (bif Nat.ble m 59 then (bif Nat.beq m 59 then cX4_init else cL_law) else (bif Nat.ble m 60 then (bif Nat.beq m 60 then cX4_read else cL_law) else (bif Nat.beq m 61 then cX4_clear else cL_law))))) else (bif Nat.ble m 67 then (bif Nat.ble m 64 then (bif Nat.ble m 62 then (bif Nat.beq m 62 then cX4_must else cL_law) else (bif Nat.ble m 63 then (bif Nat.beq m 63 then cX4_member else cL_law) else (bif Nat.beq m 64 then cX4_body else cL_law))) else (bif Nat.ble m 65 then (bif Nat.beq m 65 then cX4_line else cL_law) else (bif Nat.ble m 66 then (bif Nat.beq m 66 then cX4_operands else cL_law) else (bif Nat.beq m 67 then cX5_init else cL_law)))) else (bif Nat.ble m 70 then (bif Nat.ble m 68 then (bif Nat.beq m 68 then cX5_load else cL_law) else (bif Nat.ble m 69 then (bif Nat.beq m 69 then cX5_readClass else cL_law) else (bif Nat.beq m 70 then cX5_classOf else cL_law))) else (bif Nat.ble m 72 then (bif Nat.ble m 71 then (bif Nat.beq m 71 then cX5_classAt else cL_law) else (bif Nat.beq m 72 then cX5_must else cL_law)) else (bif Nat.ble m 73 then (bif Nat.beq m 73 then cX5_readMember else cL_law) else (bif Nat.beq m 74 then cX5_readField else cL_law)))))) else (bif Nat.ble m 86 then (bif Nat.ble m 80 then (bif Nat.ble m 77 then (bif Nat.ble m 75 then (bif Nat.beq m 75 then cX5_field else cL_law) else (bif Nat.ble m 76 then (bif Nat.beq m 76 then cX5_typeMust else cL_law) else (bif Nat.beq m 77 then cX5_typeOf else cL_law))) else (bif Nat.ble m 78 then (bif Nat.beq m 78 then cX5_fieldsAbove else cL_law) else (bif Nat.ble m 79 then (bif Nat.beq m 79 then cX5_readHead else cL_law) else (bif Nat.beq m 80 then cX5_nearestBody else cL_law)))) else (bif Nat.ble m 83 then (bif Nat.ble m 81 then (bif Nat.beq m 81 then cX5_bodyIn else cL_law) else (bif Nat.ble m 82 then (bif Nat.beq m 82 then cX5_isSameHead else cL_law) else (bif Nat.beq m 83 then cX5_firstType else cL_law))) else (bif Nat.ble m 84 then (bif Nat.beq m 84 then cX5_readBody else cL_law) else (bif Nat.ble m 85 then (bif Nat.beq m 85 then cX5_linesBefore else cL_law) else (bif Nat.beq m 86 then cX5_findLabels else cL_law))))) else (bif Nat.ble m 92 then (bif Nat.ble m 89 then (bif Nat.ble m 87 then (bif Nat.beq m 87 then cX5_readCatch else cL_law) else (bif Nat.ble m 88 then (bif Nat.beq m 88 then cX5_label else cL_law) else (bif Nat.beq m 89 then cX5_readInstruction else cL_law))) else (bif Nat.ble m 90 then (bif Nat.beq m 90 then cX5_operand else cL_law) else (bif Nat.ble m 91 then (bif Nat.beq m 91 then cX5_member else cL_law) else (bif Nat.beq m 92 then cX5_findMain else cL_law)))) else (bif Nat.ble m 95 then (bif Nat.ble m 93 then (bif Nat.beq m 93 then cX6_init else cL_law) else (bif Nat.ble m 94 then (bif Nat.beq m 94 then cX6_check else cL_law) else (bif Nat.beq m 95 then cX6_findHeights else cL_law))) else (bif Nat.ble m 97 then (bif Nat.ble m 96 then (bif Nat.beq m 96 then cX6_reach else cL_law) else (bif Nat.beq m 97 then cX6_spread else cL_law)) else (bif Nat.ble m 98 then (bif Nat.beq m 98 then cX6_covers else cL_law) else (bif Nat.beq m 99 then cX6_findTypes else cL_law)))))))) else (bif Nat.ble m 149 then (bif Nat.ble m 124 then (bif Nat.ble m 111 then (bif Nat.ble m 105 then (bif Nat.ble m 102 then (bif Nat.ble m 100 then (bif Nat.beq m 100 then cX6_join else cL_law) else (bif Nat.ble m 101 then (bif Nat.beq m 101 then cX6_caught else cL_law) else (bif Nat.beq m 102 then cX6_take else cL_law))) else (bif Nat.ble m 103 then (bif Nat.beq m 103 then cX6_push else cL_law) else (bif Nat.ble m 104 then (bif Nat.beq m 104 then cX6_act else cL_law) else (bif Nat.beq m 105 then cX6_elementOf else cL_law)))) else (bif Nat.ble m 108 then (bif Nat.ble m 106 then (bif Nat.beq m 106 then cX6_isRight else cL_law) else (bif Nat.ble m 107 then (bif Nat.beq m 107 then cX6_top else cL_law) else (bif Nat.beq m 108 then cX6_isRef else cL_law))) else (bif Nat.ble m 109 then (bif Nat.beq m 109 then cX6_isRow else cL_law) else (bif Nat.ble m 110 then (bif Nat.beq m 110 then cX6_areArguments else cL_law) else (bif Nat.beq m 111 then cX6_areInts else cL_law))))) else (bif Nat.ble m 117 then (bif Nat.ble m 114 then (bif Nat.ble m 112 then (bif Nat.beq m 112 then cX7_init else cL_law) else (bif Nat.ble m 113 then (bif Nat.beq m 113 then cX7_seek else cL_law) else (bif Nat.beq m 114 then cX7_begin else cL_law))) else (bif Nat.ble m 115 then (bif Nat.beq m 115 then cX7_sitesOf else cL_law) else (bif Nat.ble m 116 then (bif Nat.beq m 116 then cX7_enter else cL_law) else (bif Nat.beq m 117 then cX7_flow else cL_law)))) else (bif Nat.ble m 120 then (bif Nat.ble m 118 then (bif Nat.beq m 118 then cX7_wake else cL_law) else (bif Nat.ble m 119 then (bif Nat.beq m 119 then cX7_act else cL_law) else (bif Nat.beq m 120 then cX7_branch else cL_law))) else (bif Nat.ble m 122 then (bif Nat.ble m 121 then (bif Nat.beq m 121 then cX7_pop else cL_law) else (bif Nat.beq m 122 then cX7_way else cL_law)) else (bif Nat.ble m 123 then (bif Nat.beq m 123 then cX7_nullWay else cL_law) else (bif Nat.beq m 124 then cX7_objects else cL_law)))))) else (bif Nat.ble m 136 then (bif Nat.ble m 130 then (bif Nat.ble m 127 then (bif Nat.ble m 125 then (bif Nat.beq m 125 then cX7_keep else cL_law) else (bif Nat.ble m 126 then (bif Nat.beq m 126 then cX7_sameWay else cL_law) else (bif Nat.beq m 127 then cX7_contrary else cL_law))) else (bif Nat.ble m 128 then (bif Nat.beq m 128 then cX7_relate else cL_law) else (bif Nat.ble m 129 then (bif Nat.beq m 129 then cX7_cut else cL_law) else (bif Nat.beq m 130 then cX7_bit else cL_law)))) else (bif Nat.ble m 133 then (bif Nat.ble m 131 then (bif Nat.beq m 131 then cX7_learn else cL_law) else (bif Nat.ble m 132 then (bif Nat.beq m 132 then cX7_compute else cL_law) else (bif Nat.beq m 133 then cX7_pushRange else cL_law))) else (bif Nat.ble m 134 then (bif Nat.beq m 134 then cX7_push else cL_law) else (bif Nat.ble m 135 then (bif Nat.beq m 135 then cX7_raise else cL_law) else (bif Nat.beq m 136 then cX7_heap else cL_law))))) else (bif Nat.ble m 142 then (bif Nat.ble m 139 then (bif Nat.ble m 137 then (bif Nat.beq m 137 then cX7_makeObject else cL_law) else (bif Nat.ble m 138 then (bif Nat.beq m 138 then cX7_zero else cL_law) else (bif Nat.beq m 139 then cX7_wakeAll else cL_law))) else (bif Nat.ble m 140 then (bif Nat.beq m 140 then cX7_pushSites else cL_law) else (bif Nat.ble m 141 then (bif Nat.beq m 141 then cX7_makeArray else cL_law) else (bif Nat.beq m 142 then cX7_length else cL_law)))) else (bif Nat.ble m 145 then (bif Nat.ble m 143 then (bif Nat.beq m 143 then cX7_dereference else cL_law) else (bif Nat.ble m 144 then (bif Nat.beq m 144 then cX7_hasNull else cL_law) else (bif Nat.beq m 145 then cX7_loadAll else cL_law))) else (bif Nat.ble m 147 then (bif Nat.ble m 146 then (bif Nat.beq m 146 then cX7_joined else cL_law) else (bif Nat.beq m 147 then cX7_index else cL_law)) else (bif Nat.ble m 148 then (bif Nat.beq m 148 then cX7_storeElements else cL_law) else (bif Nat.beq m 149 then cX7_storeFields else cL_law))))))) else (bif Nat.ble m 174 then (bif Nat.ble m 161 then (bif Nat.ble m 155 then (bif Nat.ble m 152 then (bif Nat.ble m 150 then (bif Nat.beq m 150 then cX7_cast else cL_law) else (bif Nat.ble m 151 then (bif Nat.beq m 151 then cX7_is else cL_law) else (bif Nat.beq m 152 then cX7_call else cL_law))) else (bif Nat.ble m 153 then (bif Nat.beq m 153 then cX7_pass else cL_law) else (bif Nat.ble m 154 then (bif Nat.beq m 154 then cX7_simple else cL_law) else (bif Nat.beq m 155 then cX7_increase else cL_law)))) else (bif Nat.ble m 158 then (bif Nat.ble m 156 then (bif Nat.beq m 156 then cX7_throwing else cL_law) else (bif Nat.ble m 157 then (bif Nat.beq m 157 then cX7_end else cL_law) else (bif Nat.beq m 158 then cX7_spread else cL_law))) else (bif Nat.ble m 159 then (bif Nat.beq m 159 then cX7_errorsOf else cL_law) else (bif Nat.ble m 160 then (bif Nat.beq m 160 then cX8_init else cL_law) else (bif Nat.beq m 161 then cX8_begin else cL_law))))) else (bif Nat.ble m 167 then (bif Nat.ble m 164 then (bif Nat.ble m 162 then (bif Nat.beq m 162 then cX8_add else cL_law) else (bif Nat.ble m 163 then (bif Nat.beq m 163 then cX8_around else cL_law) else (bif Nat.beq m 164 then cX8_down else cL_law))) else (bif Nat.ble m 165 then (bif Nat.beq m 165 then cX8_up else cL_law) else (bif Nat.ble m 166 then (bif Nat.beq m 166 then cX9_init else cL_law) else (bif Nat.beq m 167 then cX9_negate else cL_law)))) else (bif Nat.ble m 170 then (bif Nat.ble m 168 then (bif Nat.beq m 168 then cX9_put else cL_law) else (bif Nat.ble m 169 then (bif Nat.beq m 169 then cX9_work else cL_law) else (bif Nat.beq m 170 then cX9_product else cL_law))) else (bif Nat.ble m 172 then (bif Nat.ble m 171 then (bif Nat.beq m 171 then cX9_quotient else cL_law) else (bif Nat.beq m 172 then cX9_divide else cL_law)) else (bif Nat.ble m 173 then (bif Nat.beq m 173 then cX9_rest else cL_law) else (bif Nat.beq m 174 then cX9_bits else cL_law)))))) else (bif Nat.ble m 186 then (bif Nat.ble m 180 then (bif Nat.ble m 177 then (bif Nat.ble m 175 then (bif Nat.beq m 175 then cX10_init else cL_law) else (bif Nat.ble m 176 then (bif Nat.beq m 176 then cX10_unset else cL_law) else (bif Nat.beq m 177 then cX10_putValue else cL_law))) else (bif Nat.ble m 178 then (bif Nat.beq m 178 then cX10_joinValue else cL_law) else (bif Nat.ble m 179 then (bif Nat.beq m 179 then cX10_putRange else cL_law) else (bif Nat.beq m 180 then cX10_putSites else cL_law)))) else (bif Nat.ble m 183 then (bif Nat.ble m 181 then (bif Nat.beq m 181 then cX11_init else cL_law) else (bif Nat.ble m 182 then (bif Nat.beq m 182 then cX11_plain else cL_law) else (bif Nat.beq m 183 then cX11_put else cL_law))) else (bif Nat.ble m 184 then (bif Nat.beq m 184 then cX11_join else cL_law) else (bif Nat.ble m 185 then (bif Nat.beq m 185 then cX11_forget else cL_law) else (bif Nat.beq m 186 then cX12_init else cL_law))))) else (bif Nat.ble m 192 then (bif Nat.ble m 189 then (bif Nat.ble m 187 then (bif Nat.beq m 187 then cX12_clear else cL_law) else (bif Nat.ble m 188 then (bif Nat.beq m 188 then cX12_add else cL_law) else (bif Nat.beq m 189 then cX13_init else cL_law))) else (bif Nat.ble m 190 then (bif Nat.beq m 190 then cX13_run else cL_law) else (bif Nat.ble m 191 then (bif Nat.beq m 191 then cX13_enter else cL_law) else (bif Nat.beq m 192 then cX13_step else cL_law)))) else (bif Nat.ble m 195 then (bif Nat.ble m 193 then (bif Nat.beq m 193 then cX13_compute else cL_law) else (bif Nat.ble m 194 then (bif Nat.beq m 194 then cX13_pop else cL_law) else (bif Nat.beq m 195 then cX13_push else cL_law))) else (bif Nat.ble m 197 then (bif Nat.ble m 196 then (bif Nat.beq m 196 then cX13_raise else cL_law) else (bif Nat.beq m 197 then cX13_make else cL_law)) else (bif Nat.ble m 198 then (bif Nat.beq m 198 then cX13_unwind else cL_law) else (bif Nat.beq m 199 then cX13_made else cL_law))))))))) else (bif Nat.ble m 299 then (bif Nat.ble m 249 then (bif Nat.ble m 224 then (bif Nat.ble m 211 then (bif Nat.ble m 205 then (bif Nat.ble m 202 then (bif Nat.ble m 200 then (bif Nat.beq m 200 then cX13_jump else cL_law) else (bif Nat.ble m 201 then (bif Nat.beq m 201 then cX13_heap else cL_law) else (bif Nat.beq m 202 then cX13_give else cL_law))) else (bif Nat.ble m 203 then (bif Nat.beq m 203 then cX13_makeArray else cL_law) else (bif Nat.ble m 204 then (bif Nat.beq m 204 then cX13_wrong else cL_law) else (bif Nat.beq m 205 then cX13_length else cL_law)))) else (bif Nat.ble m 208 then (bif Nat.ble m 206 then (bif Nat.beq m 206 then cX13_element else cL_law) else (bif Nat.ble m 207 then (bif Nat.beq m 207 then cX13_isOf else cL_law) else (bif Nat.beq m 208 then cX13_field else cL_law))) else (bif Nat.ble m 209 then (bif Nat.beq m 209 then cX13_cast else cL_law) else (bif Nat.ble m 210 then (bif Nat.beq m 210 then cX13_call else cL_law) else (bif Nat.beq m 211 then cX13_local else cL_law))))) else (bif Nat.ble m 217 then (bif Nat.ble m 214 then (bif Nat.ble m 212 then (bif Nat.beq m 212 then cX13_leave else cL_law) else (bif Nat.ble m 213 then (bif Nat.beq m 213 then cX13_simple else cL_law) else (bif Nat.beq m 214 then cX14_init else cL_law))) else (bif Nat.ble m 215 then (bif Nat.beq m 215 then cX14_clear else cL_law) else (bif Nat.ble m 216 then (bif Nat.beq m 216 then cX14_isClassBelow else cL_law) else (bif Nat.beq m 217 then cX14_goesOn else cL_law)))) else (bif Nat.ble m 220 then (bif Nat.ble m 218 then (bif Nat.beq m 218 then cX14_takes else cL_law) else (bif Nat.ble m 219 then (bif Nat.beq m 219 then cX14_leaves else cL_law) else (bif Nat.beq m 220 then cX14_isJump else cL_law))) else (bif Nat.ble m 222 then (bif Nat.ble m 221 then (bif Nat.beq m 221 then cX14_join else cL_law) else (bif Nat.beq m 222 then cX14_isBelow else cL_law)) else (bif Nat.ble m 223 then (bif Nat.beq m 223 then cX14_classJoin else cL_law) else (bif Nat.beq m 224 then cX14_isArray else cL_law)))))) else (bif Nat.ble m 236 then (bif Nat.ble m 230 then (bif Nat.ble m 227 then (bif Nat.ble m 225 then (bif Nat.beq m 225 then cX14_element else cL_law) else (bif Nat.ble m 226 then (bif Nat.beq m 226 then cX14_method else cL_law) else (bif Nat.beq m 227 then cX15_init else cL_law))) else (bif Nat.ble m 228 then (bif Nat.beq m 228 then cX15_feed else cL_law) else (bif Nat.ble m 229 then (bif Nat.beq m 229 then cX15_word else cL_law) else (bif Nat.beq m 230 then cX15_end else cL_law)))) else (bif Nat.ble m 233 then (bif Nat.ble m 231 then (bif Nat.beq m 231 then cX15_load else cL_law) else (bif Nat.ble m 232 then (bif Nat.beq m 232 then cX15_fault else cL_law) else (bif Nat.beq m 233 then cX15_cut else cL_law))) else (bif Nat.ble m 234 then (bif Nat.beq m 234 then cX15_isProgram else cL_law) else (bif Nat.ble m 235 then (bif Nat.beq m 235 then cX15_is else cL_law) else (bif Nat.beq m 236 then cX15_takes else cL_law))))) else (bif Nat.ble m 242 then (bif Nat.ble m 239 then (bif Nat.ble m 237 then (bif Nat.beq m 237 then cX15_isClassName else cL_law) else (bif Nat.ble m 238 then (bif Nat.beq m 238 then cX15_isName else cL_law) else (bif Nat.beq m 239 then cX15_isMember else cL_law))) else (bif Nat.ble m 240 then (bif Nat.beq m 240 then cX15_isSmallName else cL_law) else (bif Nat.ble m 241 then (bif Nat.beq m 241 then cX15_isType else cL_law) else (bif Nat.beq m 242 then cX15_isArray else cL_law)))) else (bif Nat.ble m 245 then (bif Nat.ble m 243 then (bif Nat.beq m 243 then cX15_isNumber else cL_law) else (bif Nat.ble m 244 then (bif Nat.beq m 244 then cX15_number else cL_law) else (bif Nat.beq m 245 then cX15_isLine else cL_law))) else (bif Nat.ble m 247 then (bif Nat.ble m 246 then (bif Nat.beq m 246 then cX15_isLabel else cL_law) else (bif Nat.beq m 247 then cX15_opOf else cL_law)) else (bif Nat.ble m 248 then (bif Nat.beq m 248 then cX15_among else cL_law) else (bif Nat.beq m 249 then cX15_isReference else cL_law))))))) else (bif Nat.ble m 274 then (bif Nat.ble m 261 then (bif Nat.ble m 255 then (bif Nat.ble m 252 then (bif Nat.ble m 250 then (bif Nat.beq m 250 then cX15_point else cL_law) else (bif Nat.ble m 251 then (bif Nat.beq m 251 then cX15_classNames else cL_law) else (bif Nat.beq m 252 then cX15_classOfToken else cL_law))) else (bif Nat.ble m 253 then (bif Nat.beq m 253 then cX15_classOf else cL_law) else (bif Nat.ble m 254 then (bif Nat.beq m 254 then cX15_classCount else cL_law) else (bif Nat.beq m 255 then cX15_isSame else cL_law)))) else (bif Nat.ble m 258 then (bif Nat.ble m 256 then (bif Nat.beq m 256 then cX15_wrong else cL_law) else (bif Nat.ble m 257 then (bif Nat.beq m 257 then cX15_behind else cL_law) else (bif Nat.beq m 258 then cX15_members else cL_law))) else (bif Nat.ble m 259 then (bif Nat.beq m 259 then cX15_field else cL_law) else (bif Nat.ble m 260 then (bif Nat.beq m 260 then cX15_fieldOf else cL_law) else (bif Nat.beq m 261 then cX15_isAtOrBelow else cL_law))))) else (bif Nat.ble m 267 then (bif Nat.ble m 264 then (bif Nat.ble m 262 then (bif Nat.beq m 262 then cX15_typeOf else cL_law) else (bif Nat.ble m 263 then (bif Nat.beq m 263 then cX15_body else cL_law) else (bif Nat.beq m 264 then cX15_bodyOf else cL_law))) else (bif Nat.ble m 265 then (bif Nat.beq m 265 then cX15_isSameRow else cL_law) else (bif Nat.ble m 266 then (bif Nat.beq m 266 then cX15_isSameToken else cL_law) else (bif Nat.beq m 267 then cX15_behindMember else cL_law)))) else (bif Nat.ble m 270 then (bif Nat.ble m 268 then (bif Nat.beq m 268 then cX15_lines else cL_law) else (bif Nat.ble m 269 then (bif Nat.beq m 269 then cX15_linesOf else cL_law) else (bif Nat.beq m 270 then cX15_lineLength else cL_law))) else (bif Nat.ble m 272 then (bif Nat.ble m 271 then (bif Nat.beq m 271 then cX15_label else cL_law) else (bif Nat.beq m 272 then cX15_catchLine else cL_law)) else (bif Nat.ble m 273 then (bif Nat.beq m 273 then cX15_labelAt else cL_law) else (bif Nat.beq m 274 then cX15_code else cL_law)))))) else (bif Nat.ble m 286 then (bif Nat.ble m 280 then (bif Nat.ble m 277 then (bif Nat.ble m 275 then (bif Nat.beq m 275 then cX15_thresholds else cL_law) else (bif Nat.ble m 276 then (bif Nat.beq m 276 then cX15_threshold else cL_law) else (bif Nat.beq m 277 then cX15_localStep else cL_law))) else (bif Nat.ble m 278 then (bif Nat.beq m 278 then cX15_madeStep else cL_law) else (bif Nat.ble m 279 then (bif Nat.beq m 279 then cX15_reference else cL_law) else (bif Nat.beq m 280 then cX15_settled else cL_law)))) else (bif Nat.ble m 283 then (bif Nat.ble m 281 then (bif Nat.beq m 281 then cX15_heights else cL_law) else (bif Nat.ble m 282 then (bif Nat.beq m 282 then cX15_goodHeights else cL_law) else (bif Nat.beq m 283 then cX15_howMany else cL_law))) else (bif Nat.ble m 284 then (bif Nat.beq m 284 then cX15_leaves else cL_law) else (bif Nat.ble m 285 then (bif Nat.beq m 285 then cX15_hasNext else cL_law) else (bif Nat.beq m 286 then cX15_added else cL_law))))) else (bif Nat.ble m 292 then (bif Nat.ble m 289 then (bif Nat.ble m 287 then (bif Nat.beq m 287 then cX15_hasLabel else cL_law) else (bif Nat.ble m 288 then (bif Nat.beq m 288 then cX15_covers else cL_law) else (bif Nat.beq m 289 then cX15_types else cL_law))) else (bif Nat.ble m 290 then (bif Nat.beq m 290 then cX15_typesOn else cL_law) else (bif Nat.ble m 291 then (bif Nat.beq m 291 then cX15_typesAt else cL_law) else (bif Nat.beq m 292 then cX15_typesTo else cL_law)))) else (bif Nat.ble m 295 then (bif Nat.ble m 293 then (bif Nat.beq m 293 then cX15_joined else cL_law) else (bif Nat.ble m 294 then (bif Nat.beq m 294 then cX15_isBelow else cL_law) else (bif Nat.beq m 295 then cX15_isClass else cL_law))) else (bif Nat.ble m 297 then (bif Nat.ble m 296 then (bif Nat.beq m 296 then cX15_typesBehind else cL_law) else (bif Nat.beq m 297 then cX15_leave else cL_law)) else (bif Nat.ble m 298 then (bif Nat.beq m 298 then cX15_elementOf else cL_law) else (bif Nat.beq m 299 then cX15_fits else cL_law)))))))) else (bif Nat.ble m 349 then (bif Nat.ble m 324 then (bif Nat.ble m 311 then (bif Nat.ble m 305 then (bif Nat.ble m 302 then (bif Nat.ble m 300 then (bif Nat.beq m 300 then cX15_isReferenceType else cL_law) else (bif Nat.ble m 301 then (bif Nat.beq m 301 then cX15_isArrayType else cL_law) else (bif Nat.beq m 302 then cX15_isElement else cL_law))) else (bif Nat.ble m 303 then (bif Nat.beq m 303 then cX15_areArguments else cL_law) else (bif Nat.ble m 304 then (bif Nat.beq m 304 then cX15_prove else cL_law) else (bif Nat.beq m 305 then cX15_begin else cL_law)))) else (bif Nat.ble m 308 then (bif Nat.ble m 306 then (bif Nat.beq m 306 then cX15_clear else cL_law) else (bif Nat.ble m 307 then (bif Nat.beq m 307 then cX15_bring else cL_law) else (bif Nat.beq m 308 then cX15_joinSlot else cL_law))) else (bif Nat.ble m 309 then (bif Nat.beq m 309 then cX15_look else cL_law) else (bif Nat.ble m 310 then (bif Nat.beq m 310 then cX15_fetch else cL_law) else (bif Nat.beq m 311 then cX15_way else cL_law))))) else (bif Nat.ble m 317 then (bif Nat.ble m 314 then (bif Nat.ble m 312 then (bif Nat.beq m 312 then cX15_keeps else cL_law) else (bif Nat.ble m 313 then (bif Nat.beq m 313 then cX15_ordered else cL_law) else (bif Nat.beq m 314 then cX15_notBelow else cL_law))) else (bif Nat.ble m 315 then (bif Nat.beq m 315 then cX15_notAbove else cL_law) else (bif Nat.ble m 316 then (bif Nat.beq m 316 then cX15_alike else cL_law) else (bif Nat.beq m 317 then cX15_apart else cL_law)))) else (bif Nat.ble m 320 then (bif Nat.ble m 318 then (bif Nat.beq m 318 then cX15_without else cL_law) else (bif Nat.ble m 319 then (bif Nat.beq m 319 then cX15_rangeToLocal else cL_law) else (bif Nat.beq m 320 then cX15_goOn else cL_law))) else (bif Nat.ble m 322 then (bif Nat.ble m 321 then (bif Nat.beq m 321 then cX15_contrary else cL_law) else (bif Nat.beq m 322 then cX15_goesBehind else cL_law)) else (bif Nat.ble m 323 then (bif Nat.beq m 323 then cX15_leaveRange else cL_law) else (bif Nat.beq m 324 then cX15_range else cL_law)))))) else (bif Nat.ble m 336 then (bif Nat.ble m 330 then (bif Nat.ble m 327 then (bif Nat.ble m 325 then (bif Nat.beq m 325 then cX15_leaveSites else cL_law) else (bif Nat.ble m 326 then (bif Nat.beq m 326 then cX15_put else cL_law) else (bif Nat.beq m 327 then cX15_changing else cL_law))) else (bif Nat.ble m 328 then (bif Nat.beq m 328 then cX15_made else cL_law) else (bif Nat.ble m 329 then (bif Nat.beq m 329 then cX15_joinNothing else cL_law) else (bif Nat.beq m 330 then cX15_joinRange else cL_law)))) else (bif Nat.ble m 333 then (bif Nat.ble m 331 then (bif Nat.beq m 331 then cX15_joinSites else cL_law) else (bif Nat.ble m 332 then (bif Nat.beq m 332 then cX15_madeArray else cL_law) else (bif Nat.beq m 333 then cX15_lengthOf else cL_law))) else (bif Nat.ble m 334 then (bif Nat.beq m 334 then cX15_dereference else cL_law) else (bif Nat.ble m 335 then (bif Nat.beq m 335 then cX15_leaveValues else cL_law) else (bif Nat.beq m 336 then cX15_element else cL_law))))) else (bif Nat.ble m 342 then (bif Nat.ble m 339 then (bif Nat.ble m 337 then (bif Nat.beq m 337 then cX15_index else cL_law) else (bif Nat.ble m 338 then (bif Nat.beq m 338 then cX15_joinSlotInto else cL_law) else (bif Nat.beq m 339 then cX15_sitesBelow else cL_law))) else (bif Nat.ble m 340 then (bif Nat.beq m 340 then cX15_fieldStep else cL_law) else (bif Nat.ble m 341 then (bif Nat.beq m 341 then cX15_ofType else cL_law) else (bif Nat.beq m 342 then cX15_call else cL_law)))) else (bif Nat.ble m 345 then (bif Nat.ble m 343 then (bif Nat.beq m 343 then cX15_given else cL_law) else (bif Nat.ble m 344 then (bif Nat.beq m 344 then cX15_numbers else cL_law) else (bif Nat.beq m 345 then cX15_product else cL_law))) else (bif Nat.ble m 347 then (bif Nat.ble m 346 then (bif Nat.beq m 346 then cX15_quotient else cL_law) else (bif Nat.beq m 347 then cX15_raisedByZero else cL_law)) else (bif Nat.ble m 348 then (bif Nat.beq m 348 then cX15_rest else cL_law) else (bif Nat.beq m 349 then cX15_faultAt else cL_law))))))) else (bif Nat.ble m 374 then (bif Nat.ble m 361 then (bif Nat.ble m 355 then (bif Nat.ble m 352 then (bif Nat.ble m 350 then (bif Nat.beq m 350 then cX15_size else cL_law) else (bif Nat.ble m 351 then (bif Nat.beq m 351 then cX15_errors else cL_law) else (bif Nat.beq m 352 then cX15_isCode else cL_law))) else (bif Nat.ble m 353 then (bif Nat.beq m 353 then cX15_escapes else cL_law) else (bif Nat.ble m 354 then (bif Nat.beq m 354 then cX15_ends else cL_law) else (bif Nat.beq m 355 then cX15_kind else cL_law)))) else (bif Nat.ble m 358 then (bif Nat.ble m 356 then (bif Nat.beq m 356 then cX15_slot else cL_law) else (bif Nat.ble m 357 then (bif Nat.beq m 357 then cX15_low else cL_law) else (bif Nat.beq m 358 then cX15_high else cL_law))) else (bif Nat.ble m 359 then (bif Nat.beq m 359 then cX15_sites else cL_law) else (bif Nat.ble m 360 then (bif Nat.beq m 360 then cX15_fact else cL_law) else (bif Nat.beq m 361 then cX15_lengths else cL_law))))) else (bif Nat.ble m 367 then (bif Nat.ble m 364 then (bif Nat.ble m 362 then (bif Nat.beq m 362 then cX15_input else cL_law) else (bif Nat.ble m 363 then (bif Nat.beq m 363 then cX15_run else cL_law) else (bif Nat.beq m 364 then cX15_enter else cL_law))) else (bif Nat.ble m 365 then (bif Nat.beq m 365 then cX15_holds else cL_law) else (bif Nat.ble m 366 then (bif Nat.beq m 366 then cX15_local else cL_law) else (bif Nat.beq m 367 then cX15_isHeld else cL_law)))) else (bif Nat.ble m 370 then (bif Nat.ble m 368 then (bif Nat.beq m 368 then cX15_isInt else cL_law) else (bif Nat.ble m 369 then (bif Nat.beq m 369 then cX15_siteOf else cL_law) else (bif Nat.beq m 370 then cX15_objectOf else cL_law))) else (bif Nat.ble m 372 then (bif Nat.ble m 371 then (bif Nat.beq m 371 then cX15_isArrayValue else cL_law) else (bif Nat.beq m 372 then cX15_isObject else cL_law)) else (bif Nat.ble m 373 then (bif Nat.beq m 373 then cX15_step else cL_law) else (bif Nat.beq m 374 then cX15_push else cL_law)))))) else (bif Nat.ble m 386 then (bif Nat.ble m 380 then (bif Nat.ble m 377 then (bif Nat.ble m 375 then (bif Nat.beq m 375 then cX15_pop else cL_law) else (bif Nat.ble m 376 then (bif Nat.beq m 376 then cX15_reckon else cL_law) else (bif Nat.beq m 377 then cX15_raise else cL_law))) else (bif Nat.ble m 378 then (bif Nat.beq m 378 then cX15_object else cL_law) else (bif Nat.ble m 379 then (bif Nat.beq m 379 then cX15_ended else cL_law) else (bif Nat.beq m 380 then cX15_toss else cL_law)))) else (bif Nat.ble m 383 then (bif Nat.ble m 381 then (bif Nat.beq m 381 then cX15_next else cL_law) else (bif Nat.ble m 382 then (bif Nat.beq m 382 then cX15_branch else cL_law) else (bif Nat.beq m 383 then cX15_objectStep else cL_law))) else (bif Nat.ble m 384 then (bif Nat.beq m 384 then cX15_make else cL_law) else (bif Nat.ble m 385 then (bif Nat.beq m 385 then cX15_elementStep else cL_law) else (bif Nat.beq m 386 then cX15_callStep else cL_law))))) else (bif Nat.ble m 392 then (bif Nat.ble m 389 then (bif Nat.ble m 387 then (bif Nat.beq m 387 then cX15_steps else cL_law) else (bif Nat.ble m 388 then (bif Nat.beq m 388 then cX15_place else cL_law) else (bif Nat.beq m 389 then cX15_thrown else cL_law))) else (bif Nat.ble m 390 then (bif Nat.beq m 390 then cX15_written else cL_law) else (bif Nat.ble m 391 then (bif Nat.beq m 391 then cX15_out else cL_law) else (bif Nat.beq m 392 then cX15_strays else cL_law)))) else (bif Nat.ble m 395 then (bif Nat.ble m 393 then (bif Nat.beq m 393 then cX16_init else cL_law) else (bif Nat.ble m 394 then (bif Nat.beq m 394 then cJ5_min else cL_law) else (bif Nat.beq m 395 then cJ5_max else cL_law))) else (bif Nat.ble m 397 then (bif Nat.ble m 396 then (bif Nat.beq m 396 then cJ5_max_2 else cL_law) else (bif Nat.beq m 397 then cJ5_min_2 else cL_law)) else (bif Nat.ble m 398 then (bif Nat.beq m 398 then cJ5_abs else cL_law) else (bif Nat.beq m 399 then cL_law else cL_law)))))))))
/-- the words of nest mates, and of the handler -/
abbrev nws : List Cond := [.methodLinkNest "SafeCode" 9 ⟨"SafeCode$Fault", "<init>", "()V"⟩ "SafeCode", .methodLinkNest "SafeCode" 52 ⟨"SafeCode$Analysis", "<init>", "()V"⟩ "SafeCode", .methodLinkNest "SafeCode" 59 ⟨"SafeCode$Machine", "<init>", "()V"⟩ "SafeCode", .methodLinkNest "SafeCode" 66 ⟨"SafeCode$Program", "<init>", "()V"⟩ "SafeCode", .methodLinkNest "SafeCode$Analysis" 11 ⟨"SafeCode$Thresholds", "<init>", "()V"⟩ "SafeCode", .methodLinkNest "SafeCode$Loader" 23 ⟨"SafeCode$Ints", "<init>", "()V"⟩ "SafeCode", .methodLinkNest "SafeCode$Syntax" 11 ⟨"SafeCode$Ints", "<init>", "()V"⟩ "SafeCode", .methodLinkNest "SafeCode$Tokens" 11 ⟨"SafeCode$Ints", "<init>", "()V"⟩ "SafeCode", .methodLinkNest "SafeCodeModel" 11 ⟨"SafeCodeModel$Program", "<init>", "()V"⟩ "SafeCodeModel", .castable "java/lang/IllegalStateException" "java/lang/IllegalStateException"]
def invI (kd j : Nat) : Instr := match kd with
  | 0 => .invokestatic j
  | 1 => .invokespecial j
  | _ => .invokevirtual j
def rcv (kd lo hi : Nat) (s T : State) (Ar : List Value) : Prop := match kd with
  | 0 => True
  | _ => ∃ (b : Nat) (As : List Value) (ci : Nat) (cell : Cell), Ar = .ref b :: As ∧ lo ≤ ci + 1 ∧ ci + 1 ≤ hi ∧ T.heap[b]? = some cell ∧ cell.vm.isStatics = false ∧ ∀ q, cls[ci]? = some q → s.vm.findClass q.1 = some cell.cls
def clOK (own : String) (j kd np : Nat) (y : MethodName) (lo hi : Nat) : Prop := ∀ (p : Program) (l : Launch) (e : Env) (R : Room) (s : State) (m : MethodId) (args : Array Value) (below : List Frame) (meth : Method) (c : Code) (T : State) (locs : List Loc) (cells slots : Nat), Stand p l e R s m args below meth c T locs cells slots → p.tables.exec = Jvm.exec → (∀ w ∈ lw_all, w.before args s = true) → (∀ w ∈ nws, va_Nw w s) → s.vm.findClass own = some m.cls → ∀ (g : JFrame) (Ar rest : List Value), g.method = m → Ar.length = np → g.stack = Ar.reverse ++ rest → decode c.code g.pc = .ok (invI kd j, 3) → rcv kd lo hi s T Ar → Into p l e R s m args below meth c T locs cells slots g rest y Ar.toArray
theorem cl_1009 : clOK RX0 9 1 1 yX1_init 2 2 := by
  intro p l e R s m args below meth c T locs cells slots X hx hts hnw hown g Ar rest hg hn hst hd hr
  obtain ⟨b, As, ci, cell, rfl, h1, h2, hc1, hc2, hc3⟩ := hr
  exact into_IN X hx hown rfl (va_Nw.use rfl (hnw _ (List.mem_of_getElem? (i := 0) rfl))) (hts _ q286) (hts _ q287) ⟨by decide, by decide⟩ hg (n := 0) (Nat.succ.inj hn) (by decide +kernel) (by simpa using hst) hd
theorem cl_1018 : clOK RX0 18 1 2 yX2_init 3 3 := by
  intro p l e R s m args below meth c T locs cells slots X hx hts hnw hown g Ar rest hg hn hst hd hr
  obtain ⟨b, As, ci, cell, rfl, h1, h2, hc1, hc2, hc3⟩ := hr
  exact into_I X hx hown rfl (hts _ q364) (hts _ q365) (hts _ q366) ⟨by decide, by decide⟩ hg (n := 1) (Nat.succ.inj hn) (by decide +kernel) (by simpa using hst) hd
theorem cl_1027 : clOK RX0 27 1 3 yX4_init 5 5 := by
  intro p l e R s m args below meth c T locs cells slots X hx hts hnw hown g Ar rest hg hn hst hd hr
  obtain ⟨b, As, ci, cell, rfl, h1, h2, hc1, hc2, hc3⟩ := hr
  exact into_I X hx hown rfl (hts _ q404) (hts _ q405) (hts _ q406) ⟨by decide, by decide⟩ hg (n := 2) (Nat.succ.inj hn) (by decide +kernel) (by simpa using hst) hd
theorem cl_1036 : clOK RX0 36 1 4 yX5_init 6 6 := by
  intro p l e R s m args below meth c T locs cells slots X hx hts hnw hown g Ar rest hg hn hst hd hr
  obtain ⟨b, As, ci, cell, rfl, h1, h2, hc1, hc2, hc3⟩ := hr
  exact into_I X hx hown rfl (hts _ q462) (hts _ q463) (hts _ q464) ⟨by decide, by decide⟩ hg (n := 3) (Nat.succ.inj hn) (by decide +kernel) (by simpa using hst) hd
theorem cl_1045 : clOK RX0 45 1 2 yX6_init 7 7 := by
  intro p l e R s m args below meth c T locs cells slots X hx hts hnw hown g Ar rest hg hn hst hd hr
  obtain ⟨b, As, ci, cell, rfl, h1, h2, hc1, hc2, hc3⟩ := hr
  exact into_I X hx hown rfl (hts _ q498) (hts _ q499) (hts _ q500) ⟨by decide, by decide⟩ hg (n := 1) (Nat.succ.inj hn) (by decide +kernel) (by simpa using hst) hd
theorem cl_1052 : clOK RX0 52 1 1 yX7_init 8 8 := by
  intro p l e R s m args below meth c T locs cells slots X hx hts hnw hown g Ar rest hg hn hst hd hr
  obtain ⟨b, As, ci, cell, rfl, h1, h2, hc1, hc2, hc3⟩ := hr
  exact into_IN X hx hown rfl (va_Nw.use rfl (hnw _ (List.mem_of_getElem? (i := 1) rfl))) (hts _ q531) (hts _ q532) ⟨by decide, by decide⟩ hg (n := 0) (Nat.succ.inj hn) (by decide +kernel) (by simpa using hst) hd
theorem cl_1059 : clOK RX0 59 1 1 yX13_init 14 14 := by
  intro p l e R s m args below meth c T locs cells slots X hx hts hnw hown g Ar rest hg hn hst hd hr
  obtain ⟨b, As, ci, cell, rfl, h1, h2, hc1, hc2, hc3⟩ := hr
  exact into_IN X hx hown rfl (va_Nw.use rfl (hnw _ (List.mem_of_getElem? (i := 2) rfl))) (hts _ q734) (hts _ q735) ⟨by decide, by decide⟩ hg (n := 0) (Nat.succ.inj hn) (by decide +kernel) (by simpa using hst) hd
theorem cl_1066 : clOK RX0 66 1 1 yX14_init 15 15 := by
  intro p l e R s m args below meth c T locs cells slots X hx hts hnw hown g Ar rest hg hn hst hd hr
  obtain ⟨b, As, ci, cell, rfl, h1, h2, hc1, hc2, hc3⟩ := hr
  exact into_IN X hx hown rfl (va_Nw.use rfl (hnw _ (List.mem_of_getElem? (i := 3) rfl))) (hts _ q806) (hts _ q807) ⟨by decide, by decide⟩ hg (n := 0) (Nat.succ.inj hn) (by decide +kernel) (by simpa using hst) hd
theorem cl_1085 : clOK RX0 85 2 1 yX1_begin 2 2 := by
  intro p l e R s m args below meth c T locs cells slots X hx hts hnw hown g Ar rest hg hn hst hd hr
  obtain ⟨b, As, ci, cell, rfl, h1, h2, hc1, hc2, hc3⟩ := hr
  obtain rfl : ci = 1 := by omega
  exact into_V X hx (C := RX1) hown (hts _ q998) (hts _ q999) (hts _ q1000) (hts _ q1001) ⟨by decide, by decide⟩ hc1 hc2 (hc3 _ rfl) hg (n := 0) (Nat.succ.inj hn) (by decide +kernel) (by simpa using hst) hd
theorem cl_1096 : clOK RX0 96 2 2 yX0_put 1 1 := by
  intro p l e R s m args below meth c T locs cells slots X hx hts hnw hown g Ar rest hg hn hst hd hr
  obtain ⟨b, As, ci, cell, rfl, h1, h2, hc1, hc2, hc3⟩ := hr
  obtain rfl : ci = 0 := by omega
  exact into_V X hx (C := RX0) hown (hts _ q1066) (hts _ q1068) (hts _ qs1) (hts _ q1069) ⟨by decide, by decide⟩ hc1 hc2 (hc3 _ rfl) hg (n := 1) (Nat.succ.inj hn) (by decide +kernel) (by simpa using hst) hd
theorem cl_1103 : clOK RX0 103 2 3 yX2_cut 3 3 := by
  intro p l e R s m args below meth c T locs cells slots X hx hts hnw hown g Ar rest hg hn hst hd hr
  obtain ⟨b, As, ci, cell, rfl, h1, h2, hc1, hc2, hc3⟩ := hr
  obtain rfl : ci = 2 := by omega
  exact into_V X hx (C := RX2) hown (hts _ q1079) (hts _ q1080) (hts _ q1081) (hts _ q1082) ⟨by decide, by decide⟩ hc1 hc2 (hc3 _ rfl) hg (n := 2) (Nat.succ.inj hn) (by decide +kernel) (by simpa using hst) hd
theorem cl_1107 : clOK RX0 107 2 1 yX4_read 5 5 := by
  intro p l e R s m args below meth c T locs cells slots X hx hts hnw hown g Ar rest hg hn hst hd hr
  obtain ⟨b, As, ci, cell, rfl, h1, h2, hc1, hc2, hc3⟩ := hr
  obtain rfl : ci = 4 := by omega
  exact into_V X hx (C := RX4) hown (hts _ q1132) (hts _ q1133) (hts _ q1134) (hts _ q1135) ⟨by decide, by decide⟩ hc1 hc2 (hc3 _ rfl) hg (n := 0) (Nat.succ.inj hn) (by decide +kernel) (by simpa using hst) hd
theorem cl_1110 : clOK RX0 110 2 2 yX5_load 6 6 := by
  intro p l e R s m args below meth c T locs cells slots X hx hts hnw hown g Ar rest hg hn hst hd hr
  obtain ⟨b, As, ci, cell, rfl, h1, h2, hc1, hc2, hc3⟩ := hr
  obtain rfl : ci = 5 := by omega
  exact into_V X hx (C := RX5) hown (hts _ q1287) (hts _ q1288) (hts _ q1289) (hts _ q1290) ⟨by decide, by decide⟩ hc1 hc2 (hc3 _ rfl) hg (n := 1) (Nat.succ.inj hn) (by decide +kernel) (by simpa using hst) hd
theorem cl_1114 : clOK RX0 114 2 2 yX6_check 7 7 := by
  intro p l e R s m args below meth c T locs cells slots X hx hts hnw hown g Ar rest hg hn hst hd hr
  obtain ⟨b, As, ci, cell, rfl, h1, h2, hc1, hc2, hc3⟩ := hr
  obtain rfl : ci = 6 := by omega
  exact into_V X hx (C := RX6) hown (hts _ q1431) (hts _ q1432) (hts _ q1433) (hts _ q1434) ⟨by decide, by decide⟩ hc1 hc2 (hc3 _ rfl) hg (n := 1) (Nat.succ.inj hn) (by decide +kernel) (by simpa using hst) hd
theorem cl_1126 : clOK RX0 126 2 2 yX7_seek 8 8 := by
  intro p l e R s m args below meth c T locs cells slots X hx hts hnw hown g Ar rest hg hn hst hd hr
  obtain ⟨b, As, ci, cell, rfl, h1, h2, hc1, hc2, hc3⟩ := hr
  obtain rfl : ci = 7 := by omega
  exact into_V X hx (C := RX7) hown (hts _ q1534) (hts _ q1535) (hts _ q1536) (hts _ q1537) ⟨by decide, by decide⟩ hc1 hc2 (hc3 _ rfl) hg (n := 1) (Nat.succ.inj hn) (by decide +kernel) (by simpa using hst) hd
theorem cl_1151 : clOK RX0 151 2 2 yX0_isCode 1 1 := by
  intro p l e R s m args below meth c T locs cells slots X hx hts hnw hown g Ar rest hg hn hst hd hr
  obtain ⟨b, As, ci, cell, rfl, h1, h2, hc1, hc2, hc3⟩ := hr
  obtain rfl : ci = 0 := by omega
  exact into_V X hx (C := RX0) hown (hts _ q1887) (hts _ q1889) (hts _ qs99) (hts _ q1890) ⟨by decide, by decide⟩ hc1 hc2 (hc3 _ rfl) hg (n := 1) (Nat.succ.inj hn) (by decide +kernel) (by simpa using hst) hd
theorem cl_1155 : clOK RX0 155 2 2 yX7_errorsOf 8 8 := by
  intro p l e R s m args below meth c T locs cells slots X hx hts hnw hown g Ar rest hg hn hst hd hr
  obtain ⟨b, As, ci, cell, rfl, h1, h2, hc1, hc2, hc3⟩ := hr
  obtain rfl : ci = 7 := by omega
  exact into_V X hx (C := RX7) hown (hts _ q1891) (hts _ q1892) (hts _ q1893) (hts _ q1894) ⟨by decide, by decide⟩ hc1 hc2 (hc3 _ rfl) hg (n := 1) (Nat.succ.inj hn) (by decide +kernel) (by simpa using hst) hd
theorem cl_1176 : clOK RX0 176 2 3 yX0_isSlot 1 1 := by
  intro p l e R s m args below meth c T locs cells slots X hx hts hnw hown g Ar rest hg hn hst hd hr
  obtain ⟨b, As, ci, cell, rfl, h1, h2, hc1, hc2, hc3⟩ := hr
  obtain rfl : ci = 0 := by omega
  exact into_V X hx (C := RX0) hown (hts _ q1907) (hts _ q1909) (hts _ qs100) (hts _ q1910) ⟨by decide, by decide⟩ hc1 hc2 (hc3 _ rfl) hg (n := 2) (Nat.succ.inj hn) (by decide +kernel) (by simpa using hst) hd
theorem cl_1189 : clOK RX0 189 2 3 yX0_kind 1 1 := by
  intro p l e R s m args below meth c T locs cells slots X hx hts hnw hown g Ar rest hg hn hst hd hr
  obtain ⟨b, As, ci, cell, rfl, h1, h2, hc1, hc2, hc3⟩ := hr
  obtain rfl : ci = 0 := by omega
  exact into_V X hx (C := RX0) hown (hts _ q1915) (hts _ q1904) (hts _ q1905) (hts _ q1906) ⟨by decide, by decide⟩ hc1 hc2 (hc3 _ rfl) hg (n := 2) (Nat.succ.inj hn) (by decide +kernel) (by simpa using hst) hd
theorem cl_1225 : clOK RX0 225 2 5 yX13_run 14 14 := by
  intro p l e R s m args below meth c T locs cells slots X hx hts hnw hown g Ar rest hg hn hst hd hr
  obtain ⟨b, As, ci, cell, rfl, h1, h2, hc1, hc2, hc3⟩ := hr
  obtain rfl : ci = 13 := by omega
  exact into_V X hx (C := RX13) hown (hts _ q1940) (hts _ q1941) (hts _ q1942) (hts _ q1943) ⟨by decide, by decide⟩ hc1 hc2 (hc3 _ rfl) hg (n := 4) (Nat.succ.inj hn) (by decide +kernel) (by simpa using hst) hd
theorem cl_1244 : clOK RX0 244 0 2 yJ5_min 20 20 := by
  intro p l e R s m args below meth c T locs cells slots X hx hts hnw hown g Ar rest hg hn hst hd hr
  exact into_S X hx hown (hts _ q2058) (hts _ q1120) (hts _ q269) (hts _ q1121) ⟨by decide, by decide⟩ hg hn (by decide +kernel) hst hd
theorem cl_3011 : clOK RX2 11 1 1 yX3_init 4 4 := by
  intro p l e R s m args below meth c T locs cells slots X hx hts hnw hown g Ar rest hg hn hst hd hr
  obtain ⟨b, As, ci, cell, rfl, h1, h2, hc1, hc2, hc3⟩ := hr
  exact into_IN X hx hown rfl (va_Nw.use rfl (hnw _ (List.mem_of_getElem? (i := 7) rfl))) (hts _ q371) (hts _ q372) ⟨by decide, by decide⟩ hg (n := 0) (Nat.succ.inj hn) (by decide +kernel) (by simpa using hst) hd
theorem cl_3033 : clOK RX2 33 2 1 yX3_clear 4 4 := by
  intro p l e R s m args below meth c T locs cells slots X hx hts hnw hown g Ar rest hg hn hst hd hr
  obtain ⟨b, As, ci, cell, rfl, h1, h2, hc1, hc2, hc3⟩ := hr
  obtain rfl : ci = 3 := by omega
  exact into_V X hx (C := RX3) hown (hts _ q1083) (hts _ q1084) (hts _ q1085) (hts _ q1086) ⟨by decide, by decide⟩ hc1 hc2 (hc3 _ rfl) hg (n := 0) (Nat.succ.inj hn) (by decide +kernel) (by simpa using hst) hd
theorem cl_3036 : clOK RX2 36 0 1 yX2_isRight 3 3 := by
  intro p l e R s m args below meth c T locs cells slots X hx hts hnw hown g Ar rest hg hn hst hd hr
  exact into_S X hx hown (hts _ q1087) (hts _ q1088) (hts _ q253) (hts _ q1089) ⟨by decide, by decide⟩ hg hn (by decide +kernel) hst hd
theorem cl_3040 : clOK RX2 40 2 1 yX2_size 3 3 := by
  intro p l e R s m args below meth c T locs cells slots X hx hts hnw hown g Ar rest hg hn hst hd hr
  obtain ⟨b, As, ci, cell, rfl, h1, h2, hc1, hc2, hc3⟩ := hr
  obtain rfl : ci = 2 := by omega
  exact into_V X hx (C := RX2) hown (hts _ q1090) (hts _ q1091) (hts _ q1092) (hts _ q1093) ⟨by decide, by decide⟩ hc1 hc2 (hc3 _ rfl) hg (n := 0) (Nat.succ.inj hn) (by decide +kernel) (by simpa using hst) hd
theorem cl_3043 : clOK RX2 43 2 3 yX1_at 2 2 := by
  intro p l e R s m args below meth c T locs cells slots X hx hts hnw hown g Ar rest hg hn hst hd hr
  obtain ⟨b, As, ci, cell, rfl, h1, h2, hc1, hc2, hc3⟩ := hr
  obtain rfl : ci = 1 := by omega
  exact into_V X hx (C := RX1) hown (hts _ q1094) (hts _ q1095) (hts _ q1096) (hts _ q1097) ⟨by decide, by decide⟩ hc1 hc2 (hc3 _ rfl) hg (n := 2) (Nat.succ.inj hn) (by decide +kernel) (by simpa using hst) hd
theorem cl_3049 : clOK RX2 49 2 3 yX2_lineEnd 3 3 := by
  intro p l e R s m args below meth c T locs cells slots X hx hts hnw hown g Ar rest hg hn hst hd hr
  obtain ⟨b, As, ci, cell, rfl, h1, h2, hc1, hc2, hc3⟩ := hr
  obtain rfl : ci = 2 := by omega
  exact into_V X hx (C := RX2) hown (hts _ q1098) (hts _ q1100) (hts _ qs2) (hts _ q1101) ⟨by decide, by decide⟩ hc1 hc2 (hc3 _ rfl) hg (n := 2) (Nat.succ.inj hn) (by decide +kernel) (by simpa using hst) hd
theorem cl_3053 : clOK RX2 53 0 1 yX2_isBlank 3 3 := by
  intro p l e R s m args below meth c T locs cells slots X hx hts hnw hown g Ar rest hg hn hst hd hr
  exact into_S X hx hown (hts _ q1102) (hts _ q1103) (hts _ q253) (hts _ q1104) ⟨by decide, by decide⟩ hg hn (by decide +kernel) hst hd
theorem cl_3056 : clOK RX2 56 2 2 yX3_add 4 4 := by
  intro p l e R s m args below meth c T locs cells slots X hx hts hnw hown g Ar rest hg hn hst hd hr
  obtain ⟨b, As, ci, cell, rfl, h1, h2, hc1, hc2, hc3⟩ := hr
  obtain rfl : ci = 3 := by omega
  exact into_V X hx (C := RX3) hown (hts _ q1105) (hts _ q1106) (hts _ q1107) (hts _ q1108) ⟨by decide, by decide⟩ hc1 hc2 (hc3 _ rfl) hg (n := 1) (Nat.succ.inj hn) (by decide +kernel) (by simpa using hst) hd
theorem cl_3060 : clOK RX2 60 0 1 yX2_isMark 3 3 := by
  intro p l e R s m args below meth c T locs cells slots X hx hts hnw hown g Ar rest hg hn hst hd hr
  exact into_S X hx hown (hts _ q1125) (hts _ q1126) (hts _ q253) (hts _ q1127) ⟨by decide, by decide⟩ hg hn (by decide +kernel) hst hd
theorem cl_3063 : clOK RX2 63 2 3 yX2_wordEnd 3 3 := by
  intro p l e R s m args below meth c T locs cells slots X hx hts hnw hown g Ar rest hg hn hst hd hr
  obtain ⟨b, As, ci, cell, rfl, h1, h2, hc1, hc2, hc3⟩ := hr
  obtain rfl : ci = 2 := by omega
  exact into_V X hx (C := RX2) hown (hts _ q1128) (hts _ q1130) (hts _ qs3) (hts _ q1131) ⟨by decide, by decide⟩ hc1 hc2 (hc3 _ rfl) hg (n := 2) (Nat.succ.inj hn) (by decide +kernel) (by simpa using hst) hd
theorem cl_3075 : clOK RX2 75 2 6 yX2_isAt 3 3 := by
  intro p l e R s m args below meth c T locs cells slots X hx hts hnw hown g Ar rest hg hn hst hd hr
  obtain ⟨b, As, ci, cell, rfl, h1, h2, hc1, hc2, hc3⟩ := hr
  obtain rfl : ci = 2 := by omega
  exact into_V X hx (C := RX2) hown (hts _ q1157) (hts _ q1159) (hts _ qs4) (hts _ q1160) ⟨by decide, by decide⟩ hc1 hc2 (hc3 _ rfl) hg (n := 5) (Nat.succ.inj hn) (by decide +kernel) (by simpa using hst) hd
theorem cl_3083 : clOK RX2 83 2 4 yX2_wordOf 3 3 := by
  intro p l e R s m args below meth c T locs cells slots X hx hts hnw hown g Ar rest hg hn hst hd hr
  obtain ⟨b, As, ci, cell, rfl, h1, h2, hc1, hc2, hc3⟩ := hr
  obtain rfl : ci = 2 := by omega
  exact into_V X hx (C := RX2) hown (hts _ q1274) (hts _ q1276) (hts _ qs12) (hts _ q1277) ⟨by decide, by decide⟩ hc1 hc2 (hc3 _ rfl) hg (n := 3) (Nat.succ.inj hn) (by decide +kernel) (by simpa using hst) hd
theorem cl_3089 : clOK RX2 89 2 5 yX2_isNameAt 3 3 := by
  intro p l e R s m args below meth c T locs cells slots X hx hts hnw hown g Ar rest hg hn hst hd hr
  obtain ⟨b, As, ci, cell, rfl, h1, h2, hc1, hc2, hc3⟩ := hr
  obtain rfl : ci = 2 := by omega
  exact into_V X hx (C := RX2) hown (hts _ q1208) (hts _ q1210) (hts _ qs6) (hts _ q1211) ⟨by decide, by decide⟩ hc1 hc2 (hc3 _ rfl) hg (n := 4) (Nat.succ.inj hn) (by decide +kernel) (by simpa using hst) hd
theorem cl_3093 : clOK RX2 93 2 2 yX2_isArrayWord 3 3 := by
  intro p l e R s m args below meth c T locs cells slots X hx hts hnw hown g Ar rest hg hn hst hd hr
  obtain ⟨b, As, ci, cell, rfl, h1, h2, hc1, hc2, hc3⟩ := hr
  obtain rfl : ci = 2 := by omega
  exact into_V X hx (C := RX2) hown (hts _ q1239) (hts _ q1241) (hts _ qs8) (hts _ q1242) ⟨by decide, by decide⟩ hc1 hc2 (hc3 _ rfl) hg (n := 1) (Nat.succ.inj hn) (by decide +kernel) (by simpa using hst) hd
theorem cl_3096 : clOK RX2 96 2 2 yX2_bareEnd 3 3 := by
  intro p l e R s m args below meth c T locs cells slots X hx hts hnw hown g Ar rest hg hn hst hd hr
  obtain ⟨b, As, ci, cell, rfl, h1, h2, hc1, hc2, hc3⟩ := hr
  obtain rfl : ci = 2 := by omega
  exact into_V X hx (C := RX2) hown (hts _ q1235) (hts _ q1236) (hts _ q1237) (hts _ q1238) ⟨by decide, by decide⟩ hc1 hc2 (hc3 _ rfl) hg (n := 1) (Nat.succ.inj hn) (by decide +kernel) (by simpa using hst) hd
theorem cl_3102 : clOK RX2 102 2 2 yX2_isIntBare 3 3 := by
  intro p l e R s m args below meth c T locs cells slots X hx hts hnw hown g Ar rest hg hn hst hd hr
  obtain ⟨b, As, ci, cell, rfl, h1, h2, hc1, hc2, hc3⟩ := hr
  obtain rfl : ci = 2 := by omega
  exact into_V X hx (C := RX2) hown (hts _ q1231) (hts _ q1232) (hts _ q1233) (hts _ q1234) ⟨by decide, by decide⟩ hc1 hc2 (hc3 _ rfl) hg (n := 1) (Nat.succ.inj hn) (by decide +kernel) (by simpa using hst) hd
theorem cl_3105 : clOK RX2 105 2 2 yX2_value 3 3 := by
  intro p l e R s m args below meth c T locs cells slots X hx hts hnw hown g Ar rest hg hn hst hd hr
  obtain ⟨b, As, ci, cell, rfl, h1, h2, hc1, hc2, hc3⟩ := hr
  obtain rfl : ci = 2 := by omega
  exact into_V X hx (C := RX2) hown (hts _ q1255) (hts _ q1257) (hts _ qs10) (hts _ q1258) ⟨by decide, by decide⟩ hc1 hc2 (hc3 _ rfl) hg (n := 1) (Nat.succ.inj hn) (by decide +kernel) (by simpa using hst) hd
theorem cl_3117 : clOK RX2 117 2 5 yX2_isSamePart 3 3 := by
  intro p l e R s m args below meth c T locs cells slots X hx hts hnw hown g Ar rest hg hn hst hd hr
  obtain ⟨b, As, ci, cell, rfl, h1, h2, hc1, hc2, hc3⟩ := hr
  obtain rfl : ci = 2 := by omega
  exact into_V X hx (C := RX2) hown (hts _ q1378) (hts _ q1313) (hts _ q1314) (hts _ q1315) ⟨by decide, by decide⟩ hc1 hc2 (hc3 _ rfl) hg (n := 4) (Nat.succ.inj hn) (by decide +kernel) (by simpa using hst) hd
theorem cl_5011 : clOK RX4 11 1 1 yX3_init 4 4 := by
  intro p l e R s m args below meth c T locs cells slots X hx hts hnw hown g Ar rest hg hn hst hd hr
  obtain ⟨b, As, ci, cell, rfl, h1, h2, hc1, hc2, hc3⟩ := hr
  exact into_IN X hx hown rfl (va_Nw.use rfl (hnw _ (List.mem_of_getElem? (i := 6) rfl))) (hts _ q371) (hts _ q372) ⟨by decide, by decide⟩ hg (n := 0) (Nat.succ.inj hn) (by decide +kernel) (by simpa using hst) hd
theorem cl_5057 : clOK RX4 57 2 1 yX2_size 3 3 := by
  intro p l e R s m args below meth c T locs cells slots X hx hts hnw hown g Ar rest hg hn hst hd hr
  obtain ⟨b, As, ci, cell, rfl, h1, h2, hc1, hc2, hc3⟩ := hr
  obtain rfl : ci = 2 := by omega
  exact into_V X hx (C := RX2) hown (hts _ q1141) (hts _ q1091) (hts _ q1092) (hts _ q1093) ⟨by decide, by decide⟩ hc1 hc2 (hc3 _ rfl) hg (n := 0) (Nat.succ.inj hn) (by decide +kernel) (by simpa using hst) hd
theorem cl_5063 : clOK RX4 63 2 3 yX1_at 2 2 := by
  intro p l e R s m args below meth c T locs cells slots X hx hts hnw hown g Ar rest hg hn hst hd hr
  obtain ⟨b, As, ci, cell, rfl, h1, h2, hc1, hc2, hc3⟩ := hr
  obtain rfl : ci = 1 := by omega
  exact into_V X hx (C := RX1) hown (hts _ q1203) (hts _ q1095) (hts _ q1096) (hts _ q1097) ⟨by decide, by decide⟩ hc1 hc2 (hc3 _ rfl) hg (n := 2) (Nat.succ.inj hn) (by decide +kernel) (by simpa using hst) hd
theorem cl_5068 : clOK RX4 68 2 1 yX3_clear 4 4 := by
  intro p l e R s m args below meth c T locs cells slots X hx hts hnw hown g Ar rest hg hn hst hd hr
  obtain ⟨b, As, ci, cell, rfl, h1, h2, hc1, hc2, hc3⟩ := hr
  obtain rfl : ci = 3 := by omega
  exact into_V X hx (C := RX3) hown (hts _ q1140) (hts _ q1084) (hts _ q1085) (hts _ q1086) ⟨by decide, by decide⟩ hc1 hc2 (hc3 _ rfl) hg (n := 0) (Nat.succ.inj hn) (by decide +kernel) (by simpa using hst) hd
theorem cl_5071 : clOK RX4 71 2 1 yX4_clear 5 5 := by
  intro p l e R s m args below meth c T locs cells slots X hx hts hnw hown g Ar rest hg hn hst hd hr
  obtain ⟨b, As, ci, cell, rfl, h1, h2, hc1, hc2, hc3⟩ := hr
  obtain rfl : ci = 4 := by omega
  exact into_V X hx (C := RX4) hown (hts _ q1136) (hts _ q1137) (hts _ q1138) (hts _ q1139) ⟨by decide, by decide⟩ hc1 hc2 (hc3 _ rfl) hg (n := 0) (Nat.succ.inj hn) (by decide +kernel) (by simpa using hst) hd
theorem cl_5074 : clOK RX4 74 2 3 yX2_is 3 3 := by
  intro p l e R s m args below meth c T locs cells slots X hx hts hnw hown g Ar rest hg hn hst hd hr
  obtain ⟨b, As, ci, cell, rfl, h1, h2, hc1, hc2, hc3⟩ := hr
  obtain rfl : ci = 2 := by omega
  exact into_V X hx (C := RX2) hown (hts _ q1143) (hts _ q1144) (hts _ q1145) (hts _ q1146) ⟨by decide, by decide⟩ hc1 hc2 (hc3 _ rfl) hg (n := 2) (Nat.succ.inj hn) (by decide +kernel) (by simpa using hst) hd
theorem cl_5078 : clOK RX4 78 2 2 yX4_must 5 5 := by
  intro p l e R s m args below meth c T locs cells slots X hx hts hnw hown g Ar rest hg hn hst hd hr
  obtain ⟨b, As, ci, cell, rfl, h1, h2, hc1, hc2, hc3⟩ := hr
  obtain rfl : ci = 4 := by omega
  exact into_V X hx (C := RX4) hown (hts _ q1199) (hts _ q1201) (hts _ qs5) (hts _ q1202) ⟨by decide, by decide⟩ hc1 hc2 (hc3 _ rfl) hg (n := 1) (Nat.succ.inj hn) (by decide +kernel) (by simpa using hst) hd
theorem cl_5082 : clOK RX4 82 2 2 yX2_isClassName 3 3 := by
  intro p l e R s m args below meth c T locs cells slots X hx hts hnw hown g Ar rest hg hn hst hd hr
  obtain ⟨b, As, ci, cell, rfl, h1, h2, hc1, hc2, hc3⟩ := hr
  obtain rfl : ci = 2 := by omega
  exact into_V X hx (C := RX2) hown (hts _ q1204) (hts _ q1205) (hts _ q1206) (hts _ q1207) ⟨by decide, by decide⟩ hc1 hc2 (hc3 _ rfl) hg (n := 1) (Nat.succ.inj hn) (by decide +kernel) (by simpa using hst) hd
theorem cl_5086 : clOK RX4 86 2 2 yX3_add 4 4 := by
  intro p l e R s m args below meth c T locs cells slots X hx hts hnw hown g Ar rest hg hn hst hd hr
  obtain ⟨b, As, ci, cell, rfl, h1, h2, hc1, hc2, hc3⟩ := hr
  obtain rfl : ci = 3 := by omega
  exact into_V X hx (C := RX3) hown (hts _ q1212) (hts _ q1106) (hts _ q1107) (hts _ q1108) ⟨by decide, by decide⟩ hc1 hc2 (hc3 _ rfl) hg (n := 1) (Nat.succ.inj hn) (by decide +kernel) (by simpa using hst) hd
theorem cl_5096 : clOK RX4 96 2 1 yX4_member 5 5 := by
  intro p l e R s m args below meth c T locs cells slots X hx hts hnw hown g Ar rest hg hn hst hd hr
  obtain ⟨b, As, ci, cell, rfl, h1, h2, hc1, hc2, hc3⟩ := hr
  obtain rfl : ci = 4 := by omega
  exact into_V X hx (C := RX4) hown (hts _ q1216) (hts _ q1218) (hts _ qs7) (hts _ q1219) ⟨by decide, by decide⟩ hc1 hc2 (hc3 _ rfl) hg (n := 0) (Nat.succ.inj hn) (by decide +kernel) (by simpa using hst) hd
theorem cl_5107 : clOK RX4 107 2 2 yX2_isName 3 3 := by
  intro p l e R s m args below meth c T locs cells slots X hx hts hnw hown g Ar rest hg hn hst hd hr
  obtain ⟨b, As, ci, cell, rfl, h1, h2, hc1, hc2, hc3⟩ := hr
  obtain rfl : ci = 2 := by omega
  exact into_V X hx (C := RX2) hown (hts _ q1223) (hts _ q1224) (hts _ q1225) (hts _ q1226) ⟨by decide, by decide⟩ hc1 hc2 (hc3 _ rfl) hg (n := 1) (Nat.succ.inj hn) (by decide +kernel) (by simpa using hst) hd
theorem cl_5110 : clOK RX4 110 2 2 yX2_isType 3 3 := by
  intro p l e R s m args below meth c T locs cells slots X hx hts hnw hown g Ar rest hg hn hst hd hr
  obtain ⟨b, As, ci, cell, rfl, h1, h2, hc1, hc2, hc3⟩ := hr
  obtain rfl : ci = 2 := by omega
  exact into_V X hx (C := RX2) hown (hts _ q1227) (hts _ q1228) (hts _ q1229) (hts _ q1230) ⟨by decide, by decide⟩ hc1 hc2 (hc3 _ rfl) hg (n := 1) (Nat.succ.inj hn) (by decide +kernel) (by simpa using hst) hd
theorem cl_5113 : clOK RX4 113 2 1 yX4_body 5 5 := by
  intro p l e R s m args below meth c T locs cells slots X hx hts hnw hown g Ar rest hg hn hst hd hr
  obtain ⟨b, As, ci, cell, rfl, h1, h2, hc1, hc2, hc3⟩ := hr
  obtain rfl : ci = 4 := by omega
  exact into_V X hx (C := RX4) hown (hts _ q1244) (hts _ q1246) (hts _ qs9) (hts _ q1247) ⟨by decide, by decide⟩ hc1 hc2 (hc3 _ rfl) hg (n := 0) (Nat.succ.inj hn) (by decide +kernel) (by simpa using hst) hd
theorem cl_5122 : clOK RX4 122 2 2 yX2_isNumber 3 3 := by
  intro p l e R s m args below meth c T locs cells slots X hx hts hnw hown g Ar rest hg hn hst hd hr
  obtain ⟨b, As, ci, cell, rfl, h1, h2, hc1, hc2, hc3⟩ := hr
  obtain rfl : ci = 2 := by omega
  exact into_V X hx (C := RX2) hown (hts _ q1251) (hts _ q1252) (hts _ q1253) (hts _ q1254) ⟨by decide, by decide⟩ hc1 hc2 (hc3 _ rfl) hg (n := 1) (Nat.succ.inj hn) (by decide +kernel) (by simpa using hst) hd
theorem cl_5125 : clOK RX4 125 2 1 yX4_line 5 5 := by
  intro p l e R s m args below meth c T locs cells slots X hx hts hnw hown g Ar rest hg hn hst hd hr
  obtain ⟨b, As, ci, cell, rfl, h1, h2, hc1, hc2, hc3⟩ := hr
  obtain rfl : ci = 4 := by omega
  exact into_V X hx (C := RX4) hown (hts _ q1263) (hts _ q1265) (hts _ qs11) (hts _ q1266) ⟨by decide, by decide⟩ hc1 hc2 (hc3 _ rfl) hg (n := 0) (Nat.succ.inj hn) (by decide +kernel) (by simpa using hst) hd
theorem cl_5134 : clOK RX4 134 2 3 yX2_word 3 3 := by
  intro p l e R s m args below meth c T locs cells slots X hx hts hnw hown g Ar rest hg hn hst hd hr
  obtain ⟨b, As, ci, cell, rfl, h1, h2, hc1, hc2, hc3⟩ := hr
  obtain rfl : ci = 2 := by omega
  exact into_V X hx (C := RX2) hown (hts _ q1270) (hts _ q1271) (hts _ q1272) (hts _ q1273) ⟨by decide, by decide⟩ hc1 hc2 (hc3 _ rfl) hg (n := 2) (Nat.succ.inj hn) (by decide +kernel) (by simpa using hst) hd
theorem cl_5138 : clOK RX4 138 2 2 yX4_operands 5 5 := by
  intro p l e R s m args below meth c T locs cells slots X hx hts hnw hown g Ar rest hg hn hst hd hr
  obtain ⟨b, As, ci, cell, rfl, h1, h2, hc1, hc2, hc3⟩ := hr
  obtain rfl : ci = 4 := by omega
  exact into_V X hx (C := RX4) hown (hts _ q1278) (hts _ q1280) (hts _ qs13) (hts _ q1281) ⟨by decide, by decide⟩ hc1 hc2 (hc3 _ rfl) hg (n := 1) (Nat.succ.inj hn) (by decide +kernel) (by simpa using hst) hd
theorem cl_5143 : clOK RX4 143 2 2 yX2_point 3 3 := by
  intro p l e R s m args below meth c T locs cells slots X hx hts hnw hown g Ar rest hg hn hst hd hr
  obtain ⟨b, As, ci, cell, rfl, h1, h2, hc1, hc2, hc3⟩ := hr
  obtain rfl : ci = 2 := by omega
  exact into_V X hx (C := RX2) hown (hts _ q1283) (hts _ q1284) (hts _ q1285) (hts _ q1286) ⟨by decide, by decide⟩ hc1 hc2 (hc3 _ rfl) hg (n := 1) (Nat.succ.inj hn) (by decide +kernel) (by simpa using hst) hd
theorem cl_6023 : clOK RX5 23 1 1 yX3_init 4 4 := by
  intro p l e R s m args below meth c T locs cells slots X hx hts hnw hown g Ar rest hg hn hst hd hr
  obtain ⟨b, As, ci, cell, rfl, h1, h2, hc1, hc2, hc3⟩ := hr
  exact into_IN X hx hown rfl (va_Nw.use rfl (hnw _ (List.mem_of_getElem? (i := 5) rfl))) (hts _ q371) (hts _ q372) ⟨by decide, by decide⟩ hg (n := 0) (Nat.succ.inj hn) (by decide +kernel) (by simpa using hst) hd
theorem cl_6043 : clOK RX5 43 2 3 yX1_at 2 2 := by
  intro p l e R s m args below meth c T locs cells slots X hx hts hnw hown g Ar rest hg hn hst hd hr
  obtain ⟨b, As, ci, cell, rfl, h1, h2, hc1, hc2, hc3⟩ := hr
  obtain rfl : ci = 1 := by omega
  exact into_V X hx (C := RX1) hown (hts _ q1320) (hts _ q1095) (hts _ q1096) (hts _ q1097) ⟨by decide, by decide⟩ hc1 hc2 (hc3 _ rfl) hg (n := 2) (Nat.succ.inj hn) (by decide +kernel) (by simpa using hst) hd
theorem cl_6053 : clOK RX5 53 2 1 yX14_clear 15 15 := by
  intro p l e R s m args below meth c T locs cells slots X hx hts hnw hown g Ar rest hg hn hst hd hr
  obtain ⟨b, As, ci, cell, rfl, h1, h2, hc1, hc2, hc3⟩ := hr
  obtain rfl : ci = 14 := by omega
  exact into_V X hx (C := RX14) hown (hts _ q1291) (hts _ q1292) (hts _ q1293) (hts _ q1294) ⟨by decide, by decide⟩ hc1 hc2 (hc3 _ rfl) hg (n := 0) (Nat.succ.inj hn) (by decide +kernel) (by simpa using hst) hd
theorem cl_6067 : clOK RX5 67 2 2 yX5_readClass 6 6 := by
  intro p l e R s m args below meth c T locs cells slots X hx hts hnw hown g Ar rest hg hn hst hd hr
  obtain ⟨b, As, ci, cell, rfl, h1, h2, hc1, hc2, hc3⟩ := hr
  obtain rfl : ci = 5 := by omega
  exact into_V X hx (C := RX5) hown (hts _ q1295) (hts _ q1297) (hts _ qs14) (hts _ q1298) ⟨by decide, by decide⟩ hc1 hc2 (hc3 _ rfl) hg (n := 1) (Nat.succ.inj hn) (by decide +kernel) (by simpa using hst) hd
theorem cl_6077 : clOK RX5 77 2 3 yX5_readMember 6 6 := by
  intro p l e R s m args below meth c T locs cells slots X hx hts hnw hown g Ar rest hg hn hst hd hr
  obtain ⟨b, As, ci, cell, rfl, h1, h2, hc1, hc2, hc3⟩ := hr
  obtain rfl : ci = 5 := by omega
  exact into_V X hx (C := RX5) hown (hts _ q1321) (hts _ q1323) (hts _ qs18) (hts _ q1324) ⟨by decide, by decide⟩ hc1 hc2 (hc3 _ rfl) hg (n := 2) (Nat.succ.inj hn) (by decide +kernel) (by simpa using hst) hd
theorem cl_6084 : clOK RX5 84 2 2 yX5_readBody 6 6 := by
  intro p l e R s m args below meth c T locs cells slots X hx hts hnw hown g Ar rest hg hn hst hd hr
  obtain ⟨b, As, ci, cell, rfl, h1, h2, hc1, hc2, hc3⟩ := hr
  obtain rfl : ci = 5 := by omega
  exact into_V X hx (C := RX5) hown (hts _ q1385) (hts _ q1387) (hts _ qs28) (hts _ q1388) ⟨by decide, by decide⟩ hc1 hc2 (hc3 _ rfl) hg (n := 1) (Nat.succ.inj hn) (by decide +kernel) (by simpa using hst) hd
theorem cl_6087 : clOK RX5 87 2 1 yX5_findMain 6 6 := by
  intro p l e R s m args below meth c T locs cells slots X hx hts hnw hown g Ar rest hg hn hst hd hr
  obtain ⟨b, As, ci, cell, rfl, h1, h2, hc1, hc2, hc3⟩ := hr
  obtain rfl : ci = 5 := by omega
  exact into_V X hx (C := RX5) hown (hts _ q1424) (hts _ q1426) (hts _ qs36) (hts _ q1427) ⟨by decide, by decide⟩ hc1 hc2 (hc3 _ rfl) hg (n := 0) (Nat.succ.inj hn) (by decide +kernel) (by simpa using hst) hd
theorem cl_6090 : clOK RX5 90 2 3 yX2_knownClass 3 3 := by
  intro p l e R s m args below meth c T locs cells slots X hx hts hnw hown g Ar rest hg hn hst hd hr
  obtain ⟨b, As, ci, cell, rfl, h1, h2, hc1, hc2, hc3⟩ := hr
  obtain rfl : ci = 2 := by omega
  exact into_V X hx (C := RX2) hown (hts _ q1307) (hts _ q1308) (hts _ q1309) (hts _ q1310) ⟨by decide, by decide⟩ hc1 hc2 (hc3 _ rfl) hg (n := 2) (Nat.succ.inj hn) (by decide +kernel) (by simpa using hst) hd
theorem cl_6104 : clOK RX5 104 2 5 yX2_isSamePart 3 3 := by
  intro p l e R s m args below meth c T locs cells slots X hx hts hnw hown g Ar rest hg hn hst hd hr
  obtain ⟨b, As, ci, cell, rfl, h1, h2, hc1, hc2, hc3⟩ := hr
  obtain rfl : ci = 2 := by omega
  exact into_V X hx (C := RX2) hown (hts _ q1312) (hts _ q1313) (hts _ q1314) (hts _ q1315) ⟨by decide, by decide⟩ hc1 hc2 (hc3 _ rfl) hg (n := 4) (Nat.succ.inj hn) (by decide +kernel) (by simpa using hst) hd
theorem cl_6108 : clOK RX5 108 2 3 yX5_classAt 6 6 := by
  intro p l e R s m args below meth c T locs cells slots X hx hts hnw hown g Ar rest hg hn hst hd hr
  obtain ⟨b, As, ci, cell, rfl, h1, h2, hc1, hc2, hc3⟩ := hr
  obtain rfl : ci = 5 := by omega
  exact into_V X hx (C := RX5) hown (hts _ q1303) (hts _ q1305) (hts _ qs16) (hts _ q1306) ⟨by decide, by decide⟩ hc1 hc2 (hc3 _ rfl) hg (n := 2) (Nat.succ.inj hn) (by decide +kernel) (by simpa using hst) hd
theorem cl_6111 : clOK RX5 111 2 2 yX5_classOf 6 6 := by
  intro p l e R s m args below meth c T locs cells slots X hx hts hnw hown g Ar rest hg hn hst hd hr
  obtain ⟨b, As, ci, cell, rfl, h1, h2, hc1, hc2, hc3⟩ := hr
  obtain rfl : ci = 5 := by omega
  exact into_V X hx (C := RX5) hown (hts _ q1299) (hts _ q1301) (hts _ qs15) (hts _ q1302) ⟨by decide, by decide⟩ hc1 hc2 (hc3 _ rfl) hg (n := 1) (Nat.succ.inj hn) (by decide +kernel) (by simpa using hst) hd
theorem cl_6115 : clOK RX5 115 2 3 yX5_must 6 6 := by
  intro p l e R s m args below meth c T locs cells slots X hx hts hnw hown g Ar rest hg hn hst hd hr
  obtain ⟨b, As, ci, cell, rfl, h1, h2, hc1, hc2, hc3⟩ := hr
  obtain rfl : ci = 5 := by omega
  exact into_V X hx (C := RX5) hown (hts _ q1316) (hts _ q1318) (hts _ qs17) (hts _ q1319) ⟨by decide, by decide⟩ hc1 hc2 (hc3 _ rfl) hg (n := 2) (Nat.succ.inj hn) (by decide +kernel) (by simpa using hst) hd
theorem cl_6122 : clOK RX5 122 2 2 yX2_isIntBare 3 3 := by
  intro p l e R s m args below meth c T locs cells slots X hx hts hnw hown g Ar rest hg hn hst hd hr
  obtain ⟨b, As, ci, cell, rfl, h1, h2, hc1, hc2, hc3⟩ := hr
  obtain rfl : ci = 2 := by omega
  exact into_V X hx (C := RX2) hown (hts _ q1341) (hts _ q1232) (hts _ q1233) (hts _ q1234) ⟨by decide, by decide⟩ hc1 hc2 (hc3 _ rfl) hg (n := 1) (Nat.succ.inj hn) (by decide +kernel) (by simpa using hst) hd
theorem cl_6126 : clOK RX5 126 2 2 yX2_isArrayType 3 3 := by
  intro p l e R s m args below meth c T locs cells slots X hx hts hnw hown g Ar rest hg hn hst hd hr
  obtain ⟨b, As, ci, cell, rfl, h1, h2, hc1, hc2, hc3⟩ := hr
  obtain rfl : ci = 2 := by omega
  exact into_V X hx (C := RX2) hown (hts _ q1342) (hts _ q1343) (hts _ q1344) (hts _ q1345) ⟨by decide, by decide⟩ hc1 hc2 (hc3 _ rfl) hg (n := 1) (Nat.succ.inj hn) (by decide +kernel) (by simpa using hst) hd
theorem cl_6129 : clOK RX5 129 2 2 yX2_bareEnd 3 3 := by
  intro p l e R s m args below meth c T locs cells slots X hx hts hnw hown g Ar rest hg hn hst hd hr
  obtain ⟨b, As, ci, cell, rfl, h1, h2, hc1, hc2, hc3⟩ := hr
  obtain rfl : ci = 2 := by omega
  exact into_V X hx (C := RX2) hown (hts _ q1346) (hts _ q1236) (hts _ q1237) (hts _ q1238) ⟨by decide, by decide⟩ hc1 hc2 (hc3 _ rfl) hg (n := 1) (Nat.succ.inj hn) (by decide +kernel) (by simpa using hst) hd
theorem cl_6132 : clOK RX5 132 2 2 yX5_typeOf 6 6 := by
  intro p l e R s m args below meth c T locs cells slots X hx hts hnw hown g Ar rest hg hn hst hd hr
  obtain ⟨b, As, ci, cell, rfl, h1, h2, hc1, hc2, hc3⟩ := hr
  obtain rfl : ci = 5 := by omega
  exact into_V X hx (C := RX5) hown (hts _ q1337) (hts _ q1339) (hts _ qs22) (hts _ q1340) ⟨by decide, by decide⟩ hc1 hc2 (hc3 _ rfl) hg (n := 1) (Nat.succ.inj hn) (by decide +kernel) (by simpa using hst) hd
theorem cl_6144 : clOK RX5 144 2 4 yX5_bodyIn 6 6 := by
  intro p l e R s m args below meth c T locs cells slots X hx hts hnw hown g Ar rest hg hn hst hd hr
  obtain ⟨b, As, ci, cell, rfl, h1, h2, hc1, hc2, hc3⟩ := hr
  obtain rfl : ci = 5 := by omega
  exact into_V X hx (C := RX5) hown (hts _ q1363) (hts _ q1365) (hts _ qs26) (hts _ q1366) ⟨by decide, by decide⟩ hc1 hc2 (hc3 _ rfl) hg (n := 3) (Nat.succ.inj hn) (by decide +kernel) (by simpa using hst) hd
theorem cl_6154 : clOK RX5 154 2 3 yX5_readField 6 6 := by
  intro p l e R s m args below meth c T locs cells slots X hx hts hnw hown g Ar rest hg hn hst hd hr
  obtain ⟨b, As, ci, cell, rfl, h1, h2, hc1, hc2, hc3⟩ := hr
  obtain rfl : ci = 5 := by omega
  exact into_V X hx (C := RX5) hown (hts _ q1325) (hts _ q1327) (hts _ qs19) (hts _ q1328) ⟨by decide, by decide⟩ hc1 hc2 (hc3 _ rfl) hg (n := 2) (Nat.succ.inj hn) (by decide +kernel) (by simpa using hst) hd
theorem cl_6157 : clOK RX5 157 2 4 yX5_readHead 6 6 := by
  intro p l e R s m args below meth c T locs cells slots X hx hts hnw hown g Ar rest hg hn hst hd hr
  obtain ⟨b, As, ci, cell, rfl, h1, h2, hc1, hc2, hc3⟩ := hr
  obtain rfl : ci = 5 := by omega
  exact into_V X hx (C := RX5) hown (hts _ q1355) (hts _ q1357) (hts _ qs24) (hts _ q1358) ⟨by decide, by decide⟩ hc1 hc2 (hc3 _ rfl) hg (n := 3) (Nat.succ.inj hn) (by decide +kernel) (by simpa using hst) hd
theorem cl_6161 : clOK RX5 161 2 3 yX14_isClassBelow 15 15 := by
  intro p l e R s m args below meth c T locs cells slots X hx hts hnw hown g Ar rest hg hn hst hd hr
  obtain ⟨b, As, ci, cell, rfl, h1, h2, hc1, hc2, hc3⟩ := hr
  obtain rfl : ci = 14 := by omega
  exact into_V X hx (C := RX14) hown (hts _ q1351) (hts _ q1352) (hts _ q1353) (hts _ q1354) ⟨by decide, by decide⟩ hc1 hc2 (hc3 _ rfl) hg (n := 2) (Nat.succ.inj hn) (by decide +kernel) (by simpa using hst) hd
theorem cl_6165 : clOK RX5 165 2 4 yX5_field 6 6 := by
  intro p l e R s m args below meth c T locs cells slots X hx hts hnw hown g Ar rest hg hn hst hd hr
  obtain ⟨b, As, ci, cell, rfl, h1, h2, hc1, hc2, hc3⟩ := hr
  obtain rfl : ci = 5 := by omega
  exact into_V X hx (C := RX5) hown (hts _ q1329) (hts _ q1331) (hts _ qs20) (hts _ q1332) ⟨by decide, by decide⟩ hc1 hc2 (hc3 _ rfl) hg (n := 3) (Nat.succ.inj hn) (by decide +kernel) (by simpa using hst) hd
theorem cl_6171 : clOK RX5 171 2 2 yX5_typeMust 6 6 := by
  intro p l e R s m args below meth c T locs cells slots X hx hts hnw hown g Ar rest hg hn hst hd hr
  obtain ⟨b, As, ci, cell, rfl, h1, h2, hc1, hc2, hc3⟩ := hr
  obtain rfl : ci = 5 := by omega
  exact into_V X hx (C := RX5) hown (hts _ q1333) (hts _ q1335) (hts _ qs21) (hts _ q1336) ⟨by decide, by decide⟩ hc1 hc2 (hc3 _ rfl) hg (n := 1) (Nat.succ.inj hn) (by decide +kernel) (by simpa using hst) hd
theorem cl_6177 : clOK RX5 177 2 2 yX5_fieldsAbove 6 6 := by
  intro p l e R s m args below meth c T locs cells slots X hx hts hnw hown g Ar rest hg hn hst hd hr
  obtain ⟨b, As, ci, cell, rfl, h1, h2, hc1, hc2, hc3⟩ := hr
  obtain rfl : ci = 5 := by omega
  exact into_V X hx (C := RX5) hown (hts _ q1347) (hts _ q1349) (hts _ qs23) (hts _ q1350) ⟨by decide, by decide⟩ hc1 hc2 (hc3 _ rfl) hg (n := 1) (Nat.succ.inj hn) (by decide +kernel) (by simpa using hst) hd
theorem cl_6180 : clOK RX5 180 2 4 yX5_nearestBody 6 6 := by
  intro p l e R s m args below meth c T locs cells slots X hx hts hnw hown g Ar rest hg hn hst hd hr
  obtain ⟨b, As, ci, cell, rfl, h1, h2, hc1, hc2, hc3⟩ := hr
  obtain rfl : ci = 5 := by omega
  exact into_V X hx (C := RX5) hown (hts _ q1359) (hts _ q1361) (hts _ qs25) (hts _ q1362) ⟨by decide, by decide⟩ hc1 hc2 (hc3 _ rfl) hg (n := 3) (Nat.succ.inj hn) (by decide +kernel) (by simpa using hst) hd
theorem cl_6187 : clOK RX5 187 2 3 yX5_isSameHead 6 6 := by
  intro p l e R s m args below meth c T locs cells slots X hx hts hnw hown g Ar rest hg hn hst hd hr
  obtain ⟨b, As, ci, cell, rfl, h1, h2, hc1, hc2, hc3⟩ := hr
  obtain rfl : ci = 5 := by omega
  exact into_V X hx (C := RX5) hown (hts _ q1367) (hts _ q1369) (hts _ qs27) (hts _ q1370) ⟨by decide, by decide⟩ hc1 hc2 (hc3 _ rfl) hg (n := 2) (Nat.succ.inj hn) (by decide +kernel) (by simpa using hst) hd
theorem cl_6196 : clOK RX5 196 0 1 yX5_firstType 6 6 := by
  intro p l e R s m args below meth c T locs cells slots X hx hts hnw hown g Ar rest hg hn hst hd hr
  exact into_S X hx hown (hts _ q1371) (hts _ q1372) (hts _ q256) (hts _ q1373) ⟨by decide, by decide⟩ hg hn (by decide +kernel) hst hd
theorem cl_6204 : clOK RX5 204 2 3 yX2_is 3 3 := by
  intro p l e R s m args below meth c T locs cells slots X hx hts hnw hown g Ar rest hg hn hst hd hr
  obtain ⟨b, As, ci, cell, rfl, h1, h2, hc1, hc2, hc3⟩ := hr
  obtain rfl : ci = 2 := by omega
  exact into_V X hx (C := RX2) hown (hts _ q1380) (hts _ q1144) (hts _ q1145) (hts _ q1146) ⟨by decide, by decide⟩ hc1 hc2 (hc3 _ rfl) hg (n := 2) (Nat.succ.inj hn) (by decide +kernel) (by simpa using hst) hd
theorem cl_6208 : clOK RX5 208 2 2 yX2_number 3 3 := by
  intro p l e R s m args below meth c T locs cells slots X hx hts hnw hown g Ar rest hg hn hst hd hr
  obtain ⟨b, As, ci, cell, rfl, h1, h2, hc1, hc2, hc3⟩ := hr
  obtain rfl : ci = 2 := by omega
  exact into_V X hx (C := RX2) hown (hts _ q1381) (hts _ q1382) (hts _ q1383) (hts _ q1384) ⟨by decide, by decide⟩ hc1 hc2 (hc3 _ rfl) hg (n := 1) (Nat.succ.inj hn) (by decide +kernel) (by simpa using hst) hd
theorem cl_6220 : clOK RX5 220 2 3 yX2_isSame 3 3 := by
  intro p l e R s m args below meth c T locs cells slots X hx hts hnw hown g Ar rest hg hn hst hd hr
  obtain ⟨b, As, ci, cell, rfl, h1, h2, hc1, hc2, hc3⟩ := hr
  obtain rfl : ci = 2 := by omega
  exact into_V X hx (C := RX2) hown (hts _ q1374) (hts _ q1375) (hts _ q1376) (hts _ q1377) ⟨by decide, by decide⟩ hc1 hc2 (hc3 _ rfl) hg (n := 2) (Nat.succ.inj hn) (by decide +kernel) (by simpa using hst) hd
theorem cl_6226 : clOK RX5 226 2 1 yX3_clear 4 4 := by
  intro p l e R s m args below meth c T locs cells slots X hx hts hnw hown g Ar rest hg hn hst hd hr
  obtain ⟨b, As, ci, cell, rfl, h1, h2, hc1, hc2, hc3⟩ := hr
  obtain rfl : ci = 3 := by omega
  exact into_V X hx (C := RX3) hown (hts _ q1397) (hts _ q1084) (hts _ q1085) (hts _ q1086) ⟨by decide, by decide⟩ hc1 hc2 (hc3 _ rfl) hg (n := 0) (Nat.succ.inj hn) (by decide +kernel) (by simpa using hst) hd
theorem cl_6234 : clOK RX5 234 2 2 yX3_add 4 4 := by
  intro p l e R s m args below meth c T locs cells slots X hx hts hnw hown g Ar rest hg hn hst hd hr
  obtain ⟨b, As, ci, cell, rfl, h1, h2, hc1, hc2, hc3⟩ := hr
  obtain rfl : ci = 3 := by omega
  exact into_V X hx (C := RX3) hown (hts _ q1398) (hts _ q1106) (hts _ q1107) (hts _ q1108) ⟨by decide, by decide⟩ hc1 hc2 (hc3 _ rfl) hg (n := 1) (Nat.succ.inj hn) (by decide +kernel) (by simpa using hst) hd
theorem cl_6237 : clOK RX5 237 2 2 yX5_linesBefore 6 6 := by
  intro p l e R s m args below meth c T locs cells slots X hx hts hnw hown g Ar rest hg hn hst hd hr
  obtain ⟨b, As, ci, cell, rfl, h1, h2, hc1, hc2, hc3⟩ := hr
  obtain rfl : ci = 5 := by omega
  exact into_V X hx (C := RX5) hown (hts _ q1389) (hts _ q1391) (hts _ qs29) (hts _ q1392) ⟨by decide, by decide⟩ hc1 hc2 (hc3 _ rfl) hg (n := 1) (Nat.succ.inj hn) (by decide +kernel) (by simpa using hst) hd
theorem cl_6240 : clOK RX5 240 2 3 yX5_findLabels 6 6 := by
  intro p l e R s m args below meth c T locs cells slots X hx hts hnw hown g Ar rest hg hn hst hd hr
  obtain ⟨b, As, ci, cell, rfl, h1, h2, hc1, hc2, hc3⟩ := hr
  obtain rfl : ci = 5 := by omega
  exact into_V X hx (C := RX5) hown (hts _ q1393) (hts _ q1395) (hts _ qs30) (hts _ q1396) ⟨by decide, by decide⟩ hc1 hc2 (hc3 _ rfl) hg (n := 2) (Nat.succ.inj hn) (by decide +kernel) (by simpa using hst) hd
theorem cl_6246 : clOK RX5 246 2 3 yX5_readCatch 6 6 := by
  intro p l e R s m args below meth c T locs cells slots X hx hts hnw hown g Ar rest hg hn hst hd hr
  obtain ⟨b, As, ci, cell, rfl, h1, h2, hc1, hc2, hc3⟩ := hr
  obtain rfl : ci = 5 := by omega
  exact into_V X hx (C := RX5) hown (hts _ q1399) (hts _ q1401) (hts _ qs31) (hts _ q1402) ⟨by decide, by decide⟩ hc1 hc2 (hc3 _ rfl) hg (n := 2) (Nat.succ.inj hn) (by decide +kernel) (by simpa using hst) hd
theorem cl_6252 : clOK RX5 252 2 5 yX5_readInstruction 6 6 := by
  intro p l e R s m args below meth c T locs cells slots X hx hts hnw hown g Ar rest hg hn hst hd hr
  obtain ⟨b, As, ci, cell, rfl, h1, h2, hc1, hc2, hc3⟩ := hr
  obtain rfl : ci = 5 := by omega
  exact into_V X hx (C := RX5) hown (hts _ q1407) (hts _ q1409) (hts _ qs33) (hts _ q1410) ⟨by decide, by decide⟩ hc1 hc2 (hc3 _ rfl) hg (n := 4) (Nat.succ.inj hn) (by decide +kernel) (by simpa using hst) hd
theorem cl_6259 : clOK RX5 259 2 2 yX14_goesOn 15 15 := by
  intro p l e R s m args below meth c T locs cells slots X hx hts hnw hown g Ar rest hg hn hst hd hr
  obtain ⟨b, As, ci, cell, rfl, h1, h2, hc1, hc2, hc3⟩ := hr
  obtain rfl : ci = 14 := by omega
  exact into_V X hx (C := RX14) hown (hts _ q1420) (hts _ q1421) (hts _ q1422) (hts _ q1423) ⟨by decide, by decide⟩ hc1 hc2 (hc3 _ rfl) hg (n := 1) (Nat.succ.inj hn) (by decide +kernel) (by simpa using hst) hd
theorem cl_6268 : clOK RX5 268 2 2 yX5_label 6 6 := by
  intro p l e R s m args below meth c T locs cells slots X hx hts hnw hown g Ar rest hg hn hst hd hr
  obtain ⟨b, As, ci, cell, rfl, h1, h2, hc1, hc2, hc3⟩ := hr
  obtain rfl : ci = 5 := by omega
  exact into_V X hx (C := RX5) hown (hts _ q1403) (hts _ q1405) (hts _ qs32) (hts _ q1406) ⟨by decide, by decide⟩ hc1 hc2 (hc3 _ rfl) hg (n := 1) (Nat.succ.inj hn) (by decide +kernel) (by simpa using hst) hd
theorem cl_6300 : clOK RX5 300 2 5 yX5_operand 6 6 := by
  intro p l e R s m args below meth c T locs cells slots X hx hts hnw hown g Ar rest hg hn hst hd hr
  obtain ⟨b, As, ci, cell, rfl, h1, h2, hc1, hc2, hc3⟩ := hr
  obtain rfl : ci = 5 := by omega
  exact into_V X hx (C := RX5) hown (hts _ q1411) (hts _ q1413) (hts _ qs34) (hts _ q1414) ⟨by decide, by decide⟩ hc1 hc2 (hc3 _ rfl) hg (n := 4) (Nat.succ.inj hn) (by decide +kernel) (by simpa using hst) hd
theorem cl_6306 : clOK RX5 306 2 3 yX5_member 6 6 := by
  intro p l e R s m args below meth c T locs cells slots X hx hts hnw hown g Ar rest hg hn hst hd hr
  obtain ⟨b, As, ci, cell, rfl, h1, h2, hc1, hc2, hc3⟩ := hr
  obtain rfl : ci = 5 := by omega
  exact into_V X hx (C := RX5) hown (hts _ q1415) (hts _ q1417) (hts _ qs35) (hts _ q1418) ⟨by decide, by decide⟩ hc1 hc2 (hc3 _ rfl) hg (n := 2) (Nat.succ.inj hn) (by decide +kernel) (by simpa using hst) hd
theorem cl_6309 : clOK RX5 309 2 2 yX2_point 3 3 := by
  intro p l e R s m args below meth c T locs cells slots X hx hts hnw hown g Ar rest hg hn hst hd hr
  obtain ⟨b, As, ci, cell, rfl, h1, h2, hc1, hc2, hc3⟩ := hr
  obtain rfl : ci = 2 := by omega
  exact into_V X hx (C := RX2) hown (hts _ q1419) (hts _ q1284) (hts _ q1285) (hts _ q1286) ⟨by decide, by decide⟩ hc1 hc2 (hc3 _ rfl) hg (n := 1) (Nat.succ.inj hn) (by decide +kernel) (by simpa using hst) hd
theorem cl_6318 : clOK RX5 318 2 1 yX2_size 3 3 := by
  intro p l e R s m args below meth c T locs cells slots X hx hts hnw hown g Ar rest hg hn hst hd hr
  obtain ⟨b, As, ci, cell, rfl, h1, h2, hc1, hc2, hc3⟩ := hr
  obtain rfl : ci = 2 := by omega
  exact into_V X hx (C := RX2) hown (hts _ q1430) (hts _ q1091) (hts _ q1092) (hts _ q1093) ⟨by decide, by decide⟩ hc1 hc2 (hc3 _ rfl) hg (n := 0) (Nat.succ.inj hn) (by decide +kernel) (by simpa using hst) hd
theorem cl_7048 : clOK RX6 48 2 4 yX6_findHeights 7 7 := by
  intro p l e R s m args below meth c T locs cells slots X hx hts hnw hown g Ar rest hg hn hst hd hr
  obtain ⟨b, As, ci, cell, rfl, h1, h2, hc1, hc2, hc3⟩ := hr
  obtain rfl : ci = 6 := by omega
  exact into_V X hx (C := RX6) hown (hts _ q1435) (hts _ q1437) (hts _ qs37) (hts _ q1438) ⟨by decide, by decide⟩ hc1 hc2 (hc3 _ rfl) hg (n := 3) (Nat.succ.inj hn) (by decide +kernel) (by simpa using hst) hd
theorem cl_7052 : clOK RX6 52 2 4 yX6_findTypes 7 7 := by
  intro p l e R s m args below meth c T locs cells slots X hx hts hnw hown g Ar rest hg hn hst hd hr
  obtain ⟨b, As, ci, cell, rfl, h1, h2, hc1, hc2, hc3⟩ := hr
  obtain rfl : ci = 6 := by omega
  exact into_V X hx (C := RX6) hown (hts _ q1465) (hts _ q1467) (hts _ qs41) (hts _ q1468) ⟨by decide, by decide⟩ hc1 hc2 (hc3 _ rfl) hg (n := 3) (Nat.succ.inj hn) (by decide +kernel) (by simpa using hst) hd
theorem cl_7061 : clOK RX6 61 2 3 yX6_reach 7 7 := by
  intro p l e R s m args below meth c T locs cells slots X hx hts hnw hown g Ar rest hg hn hst hd hr
  obtain ⟨b, As, ci, cell, rfl, h1, h2, hc1, hc2, hc3⟩ := hr
  obtain rfl : ci = 6 := by omega
  exact into_V X hx (C := RX6) hown (hts _ q1439) (hts _ q1441) (hts _ qs38) (hts _ q1442) ⟨by decide, by decide⟩ hc1 hc2 (hc3 _ rfl) hg (n := 2) (Nat.succ.inj hn) (by decide +kernel) (by simpa using hst) hd
theorem cl_7069 : clOK RX6 69 2 3 yX6_spread 7 7 := by
  intro p l e R s m args below meth c T locs cells slots X hx hts hnw hown g Ar rest hg hn hst hd hr
  obtain ⟨b, As, ci, cell, rfl, h1, h2, hc1, hc2, hc3⟩ := hr
  obtain rfl : ci = 6 := by omega
  exact into_V X hx (C := RX6) hown (hts _ q1443) (hts _ q1445) (hts _ qs39) (hts _ q1446) ⟨by decide, by decide⟩ hc1 hc2 (hc3 _ rfl) hg (n := 2) (Nat.succ.inj hn) (by decide +kernel) (by simpa using hst) hd
theorem cl_7073 : clOK RX6 73 2 3 yX6_covers 7 7 := by
  intro p l e R s m args below meth c T locs cells slots X hx hts hnw hown g Ar rest hg hn hst hd hr
  obtain ⟨b, As, ci, cell, rfl, h1, h2, hc1, hc2, hc3⟩ := hr
  obtain rfl : ci = 6 := by omega
  exact into_V X hx (C := RX6) hown (hts _ q1460) (hts _ q1462) (hts _ qs40) (hts _ q1463) ⟨by decide, by decide⟩ hc1 hc2 (hc3 _ rfl) hg (n := 2) (Nat.succ.inj hn) (by decide +kernel) (by simpa using hst) hd
theorem cl_7082 : clOK RX6 82 2 3 yX1_at 2 2 := by
  intro p l e R s m args below meth c T locs cells slots X hx hts hnw hown g Ar rest hg hn hst hd hr
  obtain ⟨b, As, ci, cell, rfl, h1, h2, hc1, hc2, hc3⟩ := hr
  obtain rfl : ci = 1 := by omega
  exact into_V X hx (C := RX1) hown (hts _ q1464) (hts _ q1095) (hts _ q1096) (hts _ q1097) ⟨by decide, by decide⟩ hc1 hc2 (hc3 _ rfl) hg (n := 2) (Nat.succ.inj hn) (by decide +kernel) (by simpa using hst) hd
theorem cl_7094 : clOK RX6 94 2 2 yX14_takes 15 15 := by
  intro p l e R s m args below meth c T locs cells slots X hx hts hnw hown g Ar rest hg hn hst hd hr
  obtain ⟨b, As, ci, cell, rfl, h1, h2, hc1, hc2, hc3⟩ := hr
  obtain rfl : ci = 14 := by omega
  exact into_V X hx (C := RX14) hown (hts _ q1447) (hts _ q1448) (hts _ q1449) (hts _ q1450) ⟨by decide, by decide⟩ hc1 hc2 (hc3 _ rfl) hg (n := 1) (Nat.succ.inj hn) (by decide +kernel) (by simpa using hst) hd
theorem cl_7098 : clOK RX6 98 2 2 yX14_leaves 15 15 := by
  intro p l e R s m args below meth c T locs cells slots X hx hts hnw hown g Ar rest hg hn hst hd hr
  obtain ⟨b, As, ci, cell, rfl, h1, h2, hc1, hc2, hc3⟩ := hr
  obtain rfl : ci = 14 := by omega
  exact into_V X hx (C := RX14) hown (hts _ q1451) (hts _ q1452) (hts _ q1453) (hts _ q1454) ⟨by decide, by decide⟩ hc1 hc2 (hc3 _ rfl) hg (n := 1) (Nat.succ.inj hn) (by decide +kernel) (by simpa using hst) hd
theorem cl_7101 : clOK RX6 101 2 2 yX14_goesOn 15 15 := by
  intro p l e R s m args below meth c T locs cells slots X hx hts hnw hown g Ar rest hg hn hst hd hr
  obtain ⟨b, As, ci, cell, rfl, h1, h2, hc1, hc2, hc3⟩ := hr
  obtain rfl : ci = 14 := by omega
  exact into_V X hx (C := RX14) hown (hts _ q1455) (hts _ q1421) (hts _ q1422) (hts _ q1423) ⟨by decide, by decide⟩ hc1 hc2 (hc3 _ rfl) hg (n := 1) (Nat.succ.inj hn) (by decide +kernel) (by simpa using hst) hd
theorem cl_7105 : clOK RX6 105 2 2 yX14_isJump 15 15 := by
  intro p l e R s m args below meth c T locs cells slots X hx hts hnw hown g Ar rest hg hn hst hd hr
  obtain ⟨b, As, ci, cell, rfl, h1, h2, hc1, hc2, hc3⟩ := hr
  obtain rfl : ci = 14 := by omega
  exact into_V X hx (C := RX14) hown (hts _ q1456) (hts _ q1457) (hts _ q1458) (hts _ q1459) ⟨by decide, by decide⟩ hc1 hc2 (hc3 _ rfl) hg (n := 1) (Nat.succ.inj hn) (by decide +kernel) (by simpa using hst) hd
theorem cl_7118 : clOK RX6 118 2 2 yX6_join 7 7 := by
  intro p l e R s m args below meth c T locs cells slots X hx hts hnw hown g Ar rest hg hn hst hd hr
  obtain ⟨b, As, ci, cell, rfl, h1, h2, hc1, hc2, hc3⟩ := hr
  obtain rfl : ci = 6 := by omega
  exact into_V X hx (C := RX6) hown (hts _ q1469) (hts _ q1471) (hts _ qs42) (hts _ q1472) ⟨by decide, by decide⟩ hc1 hc2 (hc3 _ rfl) hg (n := 1) (Nat.succ.inj hn) (by decide +kernel) (by simpa using hst) hd
theorem cl_7122 : clOK RX6 122 2 3 yX6_caught 7 7 := by
  intro p l e R s m args below meth c T locs cells slots X hx hts hnw hown g Ar rest hg hn hst hd hr
  obtain ⟨b, As, ci, cell, rfl, h1, h2, hc1, hc2, hc3⟩ := hr
  obtain rfl : ci = 6 := by omega
  exact into_V X hx (C := RX6) hown (hts _ q1486) (hts _ q1488) (hts _ qs44) (hts _ q1489) ⟨by decide, by decide⟩ hc1 hc2 (hc3 _ rfl) hg (n := 2) (Nat.succ.inj hn) (by decide +kernel) (by simpa using hst) hd
theorem cl_7125 : clOK RX6 125 2 2 yX6_take 7 7 := by
  intro p l e R s m args below meth c T locs cells slots X hx hts hnw hown g Ar rest hg hn hst hd hr
  obtain ⟨b, As, ci, cell, rfl, h1, h2, hc1, hc2, hc3⟩ := hr
  obtain rfl : ci = 6 := by omega
  exact into_V X hx (C := RX6) hown (hts _ q1490) (hts _ q1492) (hts _ qs45) (hts _ q1493) ⟨by decide, by decide⟩ hc1 hc2 (hc3 _ rfl) hg (n := 1) (Nat.succ.inj hn) (by decide +kernel) (by simpa using hst) hd
theorem cl_7131 : clOK RX6 131 2 2 yX6_act 7 7 := by
  intro p l e R s m args below meth c T locs cells slots X hx hts hnw hown g Ar rest hg hn hst hd hr
  obtain ⟨b, As, ci, cell, rfl, h1, h2, hc1, hc2, hc3⟩ := hr
  obtain rfl : ci = 6 := by omega
  exact into_V X hx (C := RX6) hown (hts _ q1498) (hts _ q1500) (hts _ qs47) (hts _ q1501) ⟨by decide, by decide⟩ hc1 hc2 (hc3 _ rfl) hg (n := 1) (Nat.succ.inj hn) (by decide +kernel) (by simpa using hst) hd
theorem cl_7134 : clOK RX6 134 2 2 yX6_isRight 7 7 := by
  intro p l e R s m args below meth c T locs cells slots X hx hts hnw hown g Ar rest hg hn hst hd hr
  obtain ⟨b, As, ci, cell, rfl, h1, h2, hc1, hc2, hc3⟩ := hr
  obtain rfl : ci = 6 := by omega
  exact into_V X hx (C := RX6) hown (hts _ q1511) (hts _ q1513) (hts _ qs48) (hts _ q1514) ⟨by decide, by decide⟩ hc1 hc2 (hc3 _ rfl) hg (n := 1) (Nat.succ.inj hn) (by decide +kernel) (by simpa using hst) hd
theorem cl_7140 : clOK RX6 140 2 2 yX6_push 7 7 := by
  intro p l e R s m args below meth c T locs cells slots X hx hts hnw hown g Ar rest hg hn hst hd hr
  obtain ⟨b, As, ci, cell, rfl, h1, h2, hc1, hc2, hc3⟩ := hr
  obtain rfl : ci = 6 := by omega
  exact into_V X hx (C := RX6) hown (hts _ q1494) (hts _ q1496) (hts _ qs46) (hts _ q1497) ⟨by decide, by decide⟩ hc1 hc2 (hc3 _ rfl) hg (n := 1) (Nat.succ.inj hn) (by decide +kernel) (by simpa using hst) hd
theorem cl_7143 : clOK RX6 143 2 3 yX14_join 15 15 := by
  intro p l e R s m args below meth c T locs cells slots X hx hts hnw hown g Ar rest hg hn hst hd hr
  obtain ⟨b, As, ci, cell, rfl, h1, h2, hc1, hc2, hc3⟩ := hr
  obtain rfl : ci = 14 := by omega
  exact into_V X hx (C := RX14) hown (hts _ q1473) (hts _ q1474) (hts _ q1475) (hts _ q1476) ⟨by decide, by decide⟩ hc1 hc2 (hc3 _ rfl) hg (n := 2) (Nat.succ.inj hn) (by decide +kernel) (by simpa using hst) hd
theorem cl_7149 : clOK RX6 149 0 1 yX6_elementOf 7 7 := by
  intro p l e R s m args below meth c T locs cells slots X hx hts hnw hown g Ar rest hg hn hst hd hr
  exact into_S X hx hown (hts _ q1502) (hts _ q1503) (hts _ q257) (hts _ q1504) ⟨by decide, by decide⟩ hg hn (by decide +kernel) hst hd
theorem cl_7158 : clOK RX6 158 0 1 yX14_isArray 15 15 := by
  intro p l e R s m args below meth c T locs cells slots X hx hts hnw hown g Ar rest hg hn hst hd hr
  exact into_S X hx hown (hts _ q1505) (hts _ q1506) (hts _ q265) (hts _ q1507) ⟨by decide, by decide⟩ hg hn (by decide +kernel) hst hd
theorem cl_7161 : clOK RX6 161 0 1 yX14_element 15 15 := by
  intro p l e R s m args below meth c T locs cells slots X hx hts hnw hown g Ar rest hg hn hst hd hr
  exact into_S X hx hown (hts _ q1508) (hts _ q1509) (hts _ q265) (hts _ q1510) ⟨by decide, by decide⟩ hg hn (by decide +kernel) hst hd
theorem cl_7164 : clOK RX6 164 2 2 yX6_top 7 7 := by
  intro p l e R s m args below meth c T locs cells slots X hx hts hnw hown g Ar rest hg hn hst hd hr
  obtain ⟨b, As, ci, cell, rfl, h1, h2, hc1, hc2, hc3⟩ := hr
  obtain rfl : ci = 6 := by omega
  exact into_V X hx (C := RX6) hown (hts _ q1515) (hts _ q1517) (hts _ qs49) (hts _ q1518) ⟨by decide, by decide⟩ hc1 hc2 (hc3 _ rfl) hg (n := 1) (Nat.succ.inj hn) (by decide +kernel) (by simpa using hst) hd
theorem cl_7166 : clOK RX6 166 0 1 yX6_isRef 7 7 := by
  intro p l e R s m args below meth c T locs cells slots X hx hts hnw hown g Ar rest hg hn hst hd hr
  exact into_S X hx hown (hts _ q1519) (hts _ q1520) (hts _ q257) (hts _ q1521) ⟨by decide, by decide⟩ hg hn (by decide +kernel) hst hd
theorem cl_7169 : clOK RX6 169 0 1 yX6_isRow 7 7 := by
  intro p l e R s m args below meth c T locs cells slots X hx hts hnw hown g Ar rest hg hn hst hd hr
  exact into_S X hx hown (hts _ q1522) (hts _ q1523) (hts _ q257) (hts _ q1524) ⟨by decide, by decide⟩ hg hn (by decide +kernel) hst hd
theorem cl_7172 : clOK RX6 172 2 3 yX14_isBelow 15 15 := by
  intro p l e R s m args below meth c T locs cells slots X hx hts hnw hown g Ar rest hg hn hst hd hr
  obtain ⟨b, As, ci, cell, rfl, h1, h2, hc1, hc2, hc3⟩ := hr
  obtain rfl : ci = 14 := by omega
  exact into_V X hx (C := RX14) hown (hts _ q1525) (hts _ q1478) (hts _ q1479) (hts _ q1480) ⟨by decide, by decide⟩ hc1 hc2 (hc3 _ rfl) hg (n := 2) (Nat.succ.inj hn) (by decide +kernel) (by simpa using hst) hd
theorem cl_7178 : clOK RX6 178 2 2 yX6_areArguments 7 7 := by
  intro p l e R s m args below meth c T locs cells slots X hx hts hnw hown g Ar rest hg hn hst hd hr
  obtain ⟨b, As, ci, cell, rfl, h1, h2, hc1, hc2, hc3⟩ := hr
  obtain rfl : ci = 6 := by omega
  exact into_V X hx (C := RX6) hown (hts _ q1526) (hts _ q1528) (hts _ qs50) (hts _ q1529) ⟨by decide, by decide⟩ hc1 hc2 (hc3 _ rfl) hg (n := 1) (Nat.succ.inj hn) (by decide +kernel) (by simpa using hst) hd
theorem cl_7181 : clOK RX6 181 2 2 yX6_areInts 7 7 := by
  intro p l e R s m args below meth c T locs cells slots X hx hts hnw hown g Ar rest hg hn hst hd hr
  obtain ⟨b, As, ci, cell, rfl, h1, h2, hc1, hc2, hc3⟩ := hr
  obtain rfl : ci = 6 := by omega
  exact into_V X hx (C := RX6) hown (hts _ q1530) (hts _ q1532) (hts _ qs51) (hts _ q1533) ⟨by decide, by decide⟩ hc1 hc2 (hc3 _ rfl) hg (n := 1) (Nat.succ.inj hn) (by decide +kernel) (by simpa using hst) hd
theorem cl_8011 : clOK RX7 11 1 1 yX8_init 9 9 := by
  intro p l e R s m args below meth c T locs cells slots X hx hts hnw hown g Ar rest hg hn hst hd hr
  obtain ⟨b, As, ci, cell, rfl, h1, h2, hc1, hc2, hc3⟩ := hr
  exact into_IN X hx hown rfl (va_Nw.use rfl (hnw _ (List.mem_of_getElem? (i := 4) rfl))) (hts _ q537) (hts _ q538) ⟨by decide, by decide⟩ hg (n := 0) (Nat.succ.inj hn) (by decide +kernel) (by simpa using hst) hd
theorem cl_8020 : clOK RX7 20 1 2 yX9_init 10 10 := by
  intro p l e R s m args below meth c T locs cells slots X hx hts hnw hown g Ar rest hg hn hst hd hr
  obtain ⟨b, As, ci, cell, rfl, h1, h2, hc1, hc2, hc3⟩ := hr
  exact into_I X hx hown rfl (hts _ q550) (hts _ q551) (hts _ q552) ⟨by decide, by decide⟩ hg (n := 1) (Nat.succ.inj hn) (by decide +kernel) (by simpa using hst) hd
theorem cl_8029 : clOK RX7 29 1 2 yX11_init 12 12 := by
  intro p l e R s m args below meth c T locs cells slots X hx hts hnw hown g Ar rest hg hn hst hd hr
  obtain ⟨b, As, ci, cell, rfl, h1, h2, hc1, hc2, hc3⟩ := hr
  exact into_I X hx hown rfl (hts _ q574) (hts _ q575) (hts _ q576) ⟨by decide, by decide⟩ hg (n := 1) (Nat.succ.inj hn) (by decide +kernel) (by simpa using hst) hd
theorem cl_8050 : clOK RX7 50 1 2 yX12_init 13 13 := by
  intro p l e R s m args below meth c T locs cells slots X hx hts hnw hown g Ar rest hg hn hst hd hr
  obtain ⟨b, As, ci, cell, rfl, h1, h2, hc1, hc2, hc3⟩ := hr
  exact into_I X hx hown rfl (hts _ q635) (hts _ q636) (hts _ q637) ⟨by decide, by decide⟩ hg (n := 1) (Nat.succ.inj hn) (by decide +kernel) (by simpa using hst) hd
theorem cl_8095 : clOK RX7 95 2 1 yX7_begin 8 8 := by
  intro p l e R s m args below meth c T locs cells slots X hx hts hnw hown g Ar rest hg hn hst hd hr
  obtain ⟨b, As, ci, cell, rfl, h1, h2, hc1, hc2, hc3⟩ := hr
  obtain rfl : ci = 7 := by omega
  exact into_V X hx (C := RX7) hown (hts _ q1538) (hts _ q1540) (hts _ qs52) (hts _ q1541) ⟨by decide, by decide⟩ hc1 hc2 (hc3 _ rfl) hg (n := 0) (Nat.succ.inj hn) (by decide +kernel) (by simpa using hst) hd
theorem cl_8104 : clOK RX7 104 2 2 yX7_enter 8 8 := by
  intro p l e R s m args below meth c T locs cells slots X hx hts hnw hown g Ar rest hg hn hst hd hr
  obtain ⟨b, As, ci, cell, rfl, h1, h2, hc1, hc2, hc3⟩ := hr
  obtain rfl : ci = 7 := by omega
  exact into_V X hx (C := RX7) hown (hts _ q1568) (hts _ q1570) (hts _ qs55) (hts _ q1571) ⟨by decide, by decide⟩ hc1 hc2 (hc3 _ rfl) hg (n := 1) (Nat.succ.inj hn) (by decide +kernel) (by simpa using hst) hd
theorem cl_8113 : clOK RX7 113 2 2 yX7_act 8 8 := by
  intro p l e R s m args below meth c T locs cells slots X hx hts hnw hown g Ar rest hg hn hst hd hr
  obtain ⟨b, As, ci, cell, rfl, h1, h2, hc1, hc2, hc3⟩ := hr
  obtain rfl : ci = 7 := by omega
  exact into_V X hx (C := RX7) hown (hts _ q1617) (hts _ q1619) (hts _ qs58) (hts _ q1620) ⟨by decide, by decide⟩ hc1 hc2 (hc3 _ rfl) hg (n := 1) (Nat.succ.inj hn) (by decide +kernel) (by simpa using hst) hd
theorem cl_8116 : clOK RX7 116 2 1 yX8_begin 9 9 := by
  intro p l e R s m args below meth c T locs cells slots X hx hts hnw hown g Ar rest hg hn hst hd hr
  obtain ⟨b, As, ci, cell, rfl, h1, h2, hc1, hc2, hc3⟩ := hr
  obtain rfl : ci = 8 := by omega
  exact into_V X hx (C := RX8) hown (hts _ q1542) (hts _ q1543) (hts _ q1544) (hts _ q1545) ⟨by decide, by decide⟩ hc1 hc2 (hc3 _ rfl) hg (n := 0) (Nat.succ.inj hn) (by decide +kernel) (by simpa using hst) hd
theorem cl_8126 : clOK RX7 126 2 2 yX8_around 9 9 := by
  intro p l e R s m args below meth c T locs cells slots X hx hts hnw hown g Ar rest hg hn hst hd hr
  obtain ⟨b, As, ci, cell, rfl, h1, h2, hc1, hc2, hc3⟩ := hr
  obtain rfl : ci = 8 := by omega
  exact into_V X hx (C := RX8) hown (hts _ q1555) (hts _ q1556) (hts _ q1557) (hts _ q1558) ⟨by decide, by decide⟩ hc1 hc2 (hc3 _ rfl) hg (n := 1) (Nat.succ.inj hn) (by decide +kernel) (by simpa using hst) hd
theorem cl_8129 : clOK RX7 129 2 1 yX12_clear 13 13 := by
  intro p l e R s m args below meth c T locs cells slots X hx hts hnw hown g Ar rest hg hn hst hd hr
  obtain ⟨b, As, ci, cell, rfl, h1, h2, hc1, hc2, hc3⟩ := hr
  obtain rfl : ci = 12 := by omega
  exact into_V X hx (C := RX12) hown (hts _ q1559) (hts _ q1560) (hts _ q1561) (hts _ q1562) ⟨by decide, by decide⟩ hc1 hc2 (hc3 _ rfl) hg (n := 0) (Nat.succ.inj hn) (by decide +kernel) (by simpa using hst) hd
theorem cl_8135 : clOK RX7 135 2 2 yX7_sitesOf 8 8 := by
  intro p l e R s m args below meth c T locs cells slots X hx hts hnw hown g Ar rest hg hn hst hd hr
  obtain ⟨b, As, ci, cell, rfl, h1, h2, hc1, hc2, hc3⟩ := hr
  obtain rfl : ci = 7 := by omega
  exact into_V X hx (C := RX7) hown (hts _ q1563) (hts _ q1565) (hts _ qs54) (hts _ q1566) ⟨by decide, by decide⟩ hc1 hc2 (hc3 _ rfl) hg (n := 1) (Nat.succ.inj hn) (by decide +kernel) (by simpa using hst) hd
theorem cl_8145 : clOK RX7 145 2 3 yX14_isBelow 15 15 := by
  intro p l e R s m args below meth c T locs cells slots X hx hts hnw hown g Ar rest hg hn hst hd hr
  obtain ⟨b, As, ci, cell, rfl, h1, h2, hc1, hc2, hc3⟩ := hr
  obtain rfl : ci = 14 := by omega
  exact into_V X hx (C := RX14) hown (hts _ q1567) (hts _ q1478) (hts _ q1479) (hts _ q1480) ⟨by decide, by decide⟩ hc1 hc2 (hc3 _ rfl) hg (n := 2) (Nat.succ.inj hn) (by decide +kernel) (by simpa using hst) hd
theorem cl_8149 : clOK RX7 149 2 2 yX7_wake 8 8 := by
  intro p l e R s m args below meth c T locs cells slots X hx hts hnw hown g Ar rest hg hn hst hd hr
  obtain ⟨b, As, ci, cell, rfl, h1, h2, hc1, hc2, hc3⟩ := hr
  obtain rfl : ci = 7 := by omega
  exact into_V X hx (C := RX7) hown (hts _ q1613) (hts _ q1615) (hts _ qs57) (hts _ q1616) ⟨by decide, by decide⟩ hc1 hc2 (hc3 _ rfl) hg (n := 1) (Nat.succ.inj hn) (by decide +kernel) (by simpa using hst) hd
theorem cl_8152 : clOK RX7 152 2 4 yX11_put 12 12 := by
  intro p l e R s m args below meth c T locs cells slots X hx hts hnw hown g Ar rest hg hn hst hd hr
  obtain ⟨b, As, ci, cell, rfl, h1, h2, hc1, hc2, hc3⟩ := hr
  obtain rfl : ci = 11 := by omega
  exact into_V X hx (C := RX11) hown (hts _ q1592) (hts _ q1593) (hts _ q1594) (hts _ q1595) ⟨by decide, by decide⟩ hc1 hc2 (hc3 _ rfl) hg (n := 3) (Nat.succ.inj hn) (by decide +kernel) (by simpa using hst) hd
theorem cl_8156 : clOK RX7 156 2 4 yX11_join 12 12 := by
  intro p l e R s m args below meth c T locs cells slots X hx hts hnw hown g Ar rest hg hn hst hd hr
  obtain ⟨b, As, ci, cell, rfl, h1, h2, hc1, hc2, hc3⟩ := hr
  obtain rfl : ci = 11 := by omega
  exact into_V X hx (C := RX11) hown (hts _ q1597) (hts _ q1598) (hts _ q1599) (hts _ q1600) ⟨by decide, by decide⟩ hc1 hc2 (hc3 _ rfl) hg (n := 3) (Nat.succ.inj hn) (by decide +kernel) (by simpa using hst) hd
theorem cl_8160 : clOK RX7 160 2 2 yX10_unset 12 12 := by
  intro p l e R s m args below meth c T locs cells slots X hx hts hnw hown g Ar rest hg hn hst hd hr
  obtain ⟨b, As, ci, cell, rfl, h1, h2, hc1, hc2, hc3⟩ := hr
  obtain rfl : ci = 11 := by omega
  exact into_U X hx (C := RX11) (owner := "SafeCode$Values") (x := ⟨"SafeCode$Slots", "unset", "(I)V"⟩) hown (hts _ q1572) (hts _ q1573) rfl ⟨by decide, by decide⟩ (hts _ q1575) (hts _ q1576) (hts _ q1577) hc1 hc2 (hc3 _ rfl) hg (n := 1) (Nat.succ.inj hn) (by decide +kernel) (by simpa using hst) hd
theorem cl_8163 : clOK RX7 163 2 2 yX11_plain 12 12 := by
  intro p l e R s m args below meth c T locs cells slots X hx hts hnw hown g Ar rest hg hn hst hd hr
  obtain ⟨b, As, ci, cell, rfl, h1, h2, hc1, hc2, hc3⟩ := hr
  obtain rfl : ci = 11 := by omega
  exact into_V X hx (C := RX11) hown (hts _ q1578) (hts _ q1579) (hts _ q1580) (hts _ q1581) ⟨by decide, by decide⟩ hc1 hc2 (hc3 _ rfl) hg (n := 1) (Nat.succ.inj hn) (by decide +kernel) (by simpa using hst) hd
theorem cl_8168 : clOK RX7 168 2 4 yX10_putValue 12 12 := by
  intro p l e R s m args below meth c T locs cells slots X hx hts hnw hown g Ar rest hg hn hst hd hr
  obtain ⟨b, As, ci, cell, rfl, h1, h2, hc1, hc2, hc3⟩ := hr
  obtain rfl : ci = 11 := by omega
  exact into_U X hx (C := RX11) (owner := "SafeCode$Values") (x := ⟨"SafeCode$Slots", "putValue", "(ILSafeCode$Values;I)V"⟩) hown (hts _ q1582) (hts _ q1583) rfl ⟨by decide, by decide⟩ (hts _ q1585) (hts _ q1586) (hts _ q1587) hc1 hc2 (hc3 _ rfl) hg (n := 3) (Nat.succ.inj hn) (by decide +kernel) (by simpa using hst) hd
theorem cl_8174 : clOK RX7 174 2 4 yX7_flow 8 8 := by
  intro p l e R s m args below meth c T locs cells slots X hx hts hnw hown g Ar rest hg hn hst hd hr
  obtain ⟨b, As, ci, cell, rfl, h1, h2, hc1, hc2, hc3⟩ := hr
  obtain rfl : ci = 7 := by omega
  exact into_V X hx (C := RX7) hown (hts _ q1588) (hts _ q1590) (hts _ qs56) (hts _ q1591) ⟨by decide, by decide⟩ hc1 hc2 (hc3 _ rfl) hg (n := 3) (Nat.succ.inj hn) (by decide +kernel) (by simpa using hst) hd
theorem cl_8181 : clOK RX7 181 2 1 yX7_push 8 8 := by
  intro p l e R s m args below meth c T locs cells slots X hx hts hnw hown g Ar rest hg hn hst hd hr
  obtain ⟨b, As, ci, cell, rfl, h1, h2, hc1, hc2, hc3⟩ := hr
  obtain rfl : ci = 7 := by omega
  exact into_V X hx (C := RX7) hown (hts _ q1705) (hts _ q1707) (hts _ qs70) (hts _ q1708) ⟨by decide, by decide⟩ hc1 hc2 (hc3 _ rfl) hg (n := 0) (Nat.succ.inj hn) (by decide +kernel) (by simpa using hst) hd
theorem cl_8185 : clOK RX7 185 2 4 yX10_putRange 12 12 := by
  intro p l e R s m args below meth c T locs cells slots X hx hts hnw hown g Ar rest hg hn hst hd hr
  obtain ⟨b, As, ci, cell, rfl, h1, h2, hc1, hc2, hc3⟩ := hr
  obtain rfl : ci = 11 := by omega
  exact into_U X hx (C := RX11) (owner := "SafeCode$Values") (x := ⟨"SafeCode$Slots", "putRange", "(III)V"⟩) hown (hts _ q1709) (hts _ q1710) rfl ⟨by decide, by decide⟩ (hts _ q1712) (hts _ q1713) (hts _ q1714) hc1 hc2 (hc3 _ rfl) hg (n := 3) (Nat.succ.inj hn) (by decide +kernel) (by simpa using hst) hd
theorem cl_8189 : clOK RX7 189 2 3 yX10_putSites 12 12 := by
  intro p l e R s m args below meth c T locs cells slots X hx hts hnw hown g Ar rest hg hn hst hd hr
  obtain ⟨b, As, ci, cell, rfl, h1, h2, hc1, hc2, hc3⟩ := hr
  obtain rfl : ci = 11 := by omega
  exact into_U X hx (C := RX11) (owner := "SafeCode$Values") (x := ⟨"SafeCode$Slots", "putSites", "(IJ)V"⟩) hown (hts _ q1765) (hts _ q1766) rfl ⟨by decide, by decide⟩ (hts _ q1768) (hts _ q1769) (hts _ q1770) hc1 hc2 (hc3 _ rfl) hg (n := 2) (Nat.succ.inj hn) (by decide +kernel) (by simpa using hst) hd
theorem cl_8207 : clOK RX7 207 2 3 yX7_branch 8 8 := by
  intro p l e R s m args below meth c T locs cells slots X hx hts hnw hown g Ar rest hg hn hst hd hr
  obtain ⟨b, As, ci, cell, rfl, h1, h2, hc1, hc2, hc3⟩ := hr
  obtain rfl : ci = 7 := by omega
  exact into_V X hx (C := RX7) hown (hts _ q1621) (hts _ q1623) (hts _ qs59) (hts _ q1624) ⟨by decide, by decide⟩ hc1 hc2 (hc3 _ rfl) hg (n := 2) (Nat.succ.inj hn) (by decide +kernel) (by simpa using hst) hd
theorem cl_8210 : clOK RX7 210 2 2 yX7_compute 8 8 := by
  intro p l e R s m args below meth c T locs cells slots X hx hts hnw hown g Ar rest hg hn hst hd hr
  obtain ⟨b, As, ci, cell, rfl, h1, h2, hc1, hc2, hc3⟩ := hr
  obtain rfl : ci = 7 := by omega
  exact into_V X hx (C := RX7) hown (hts _ q1683) (hts _ q1685) (hts _ qs67) (hts _ q1686) ⟨by decide, by decide⟩ hc1 hc2 (hc3 _ rfl) hg (n := 1) (Nat.succ.inj hn) (by decide +kernel) (by simpa using hst) hd
theorem cl_8214 : clOK RX7 214 2 3 yX7_heap 8 8 := by
  intro p l e R s m args below meth c T locs cells slots X hx hts hnw hown g Ar rest hg hn hst hd hr
  obtain ⟨b, As, ci, cell, rfl, h1, h2, hc1, hc2, hc3⟩ := hr
  obtain rfl : ci = 7 := by omega
  exact into_V X hx (C := RX7) hown (hts _ q1752) (hts _ q1754) (hts _ qs77) (hts _ q1755) ⟨by decide, by decide⟩ hc1 hc2 (hc3 _ rfl) hg (n := 2) (Nat.succ.inj hn) (by decide +kernel) (by simpa using hst) hd
theorem cl_8217 : clOK RX7 217 2 3 yX7_call 8 8 := by
  intro p l e R s m args below meth c T locs cells slots X hx hts hnw hown g Ar rest hg hn hst hd hr
  obtain ⟨b, As, ci, cell, rfl, h1, h2, hc1, hc2, hc3⟩ := hr
  obtain rfl : ci = 7 := by omega
  exact into_V X hx (C := RX7) hown (hts _ q1835) (hts _ q1837) (hts _ qs92) (hts _ q1838) ⟨by decide, by decide⟩ hc1 hc2 (hc3 _ rfl) hg (n := 2) (Nat.succ.inj hn) (by decide +kernel) (by simpa using hst) hd
theorem cl_8220 : clOK RX7 220 2 3 yX7_simple 8 8 := by
  intro p l e R s m args below meth c T locs cells slots X hx hts hnw hown g Ar rest hg hn hst hd hr
  obtain ⟨b, As, ci, cell, rfl, h1, h2, hc1, hc2, hc3⟩ := hr
  obtain rfl : ci = 7 := by omega
  exact into_V X hx (C := RX7) hown (hts _ q1848) (hts _ q1850) (hts _ qs94) (hts _ q1851) ⟨by decide, by decide⟩ hc1 hc2 (hc3 _ rfl) hg (n := 2) (Nat.succ.inj hn) (by decide +kernel) (by simpa using hst) hd
theorem cl_8223 : clOK RX7 223 2 2 yX7_spread 8 8 := by
  intro p l e R s m args below meth c T locs cells slots X hx hts hnw hown g Ar rest hg hn hst hd hr
  obtain ⟨b, As, ci, cell, rfl, h1, h2, hc1, hc2, hc3⟩ := hr
  obtain rfl : ci = 7 := by omega
  exact into_V X hx (C := RX7) hown (hts _ q1870) (hts _ q1872) (hts _ qs98) (hts _ q1873) ⟨by decide, by decide⟩ hc1 hc2 (hc3 _ rfl) hg (n := 1) (Nat.succ.inj hn) (by decide +kernel) (by simpa using hst) hd
theorem cl_8226 : clOK RX7 226 2 2 yX14_goesOn 15 15 := by
  intro p l e R s m args below meth c T locs cells slots X hx hts hnw hown g Ar rest hg hn hst hd hr
  obtain ⟨b, As, ci, cell, rfl, h1, h2, hc1, hc2, hc3⟩ := hr
  obtain rfl : ci = 14 := by omega
  exact into_V X hx (C := RX14) hown (hts _ q1874) (hts _ q1421) (hts _ q1422) (hts _ q1423) ⟨by decide, by decide⟩ hc1 hc2 (hc3 _ rfl) hg (n := 1) (Nat.succ.inj hn) (by decide +kernel) (by simpa using hst) hd
theorem cl_8249 : clOK RX7 249 2 3 yX7_wakeAll 8 8 := by
  intro p l e R s m args below meth c T locs cells slots X hx hts hnw hown g Ar rest hg hn hst hd hr
  obtain ⟨b, As, ci, cell, rfl, h1, h2, hc1, hc2, hc3⟩ := hr
  obtain rfl : ci = 7 := by omega
  exact into_V X hx (C := RX7) hown (hts _ q1781) (hts _ q1783) (hts _ qs80) (hts _ q1784) ⟨by decide, by decide⟩ hc1 hc2 (hc3 _ rfl) hg (n := 2) (Nat.succ.inj hn) (by decide +kernel) (by simpa using hst) hd
theorem cl_8256 : clOK RX7 256 2 3 yX7_pushRange 8 8 := by
  intro p l e R s m args below meth c T locs cells slots X hx hts hnw hown g Ar rest hg hn hst hd hr
  obtain ⟨b, As, ci, cell, rfl, h1, h2, hc1, hc2, hc3⟩ := hr
  obtain rfl : ci = 7 := by omega
  exact into_V X hx (C := RX7) hown (hts _ q1701) (hts _ q1703) (hts _ qs69) (hts _ q1704) ⟨by decide, by decide⟩ hc1 hc2 (hc3 _ rfl) hg (n := 2) (Nat.succ.inj hn) (by decide +kernel) (by simpa using hst) hd
theorem cl_8259 : clOK RX7 259 2 2 yX7_pushSites 8 8 := by
  intro p l e R s m args below meth c T locs cells slots X hx hts hnw hown g Ar rest hg hn hst hd hr
  obtain ⟨b, As, ci, cell, rfl, h1, h2, hc1, hc2, hc3⟩ := hr
  obtain rfl : ci = 7 := by omega
  exact into_V X hx (C := RX7) hown (hts _ q1785) (hts _ q1787) (hts _ qs81) (hts _ q1788) ⟨by decide, by decide⟩ hc1 hc2 (hc3 _ rfl) hg (n := 1) (Nat.succ.inj hn) (by decide +kernel) (by simpa using hst) hd
theorem cl_8268 : clOK RX7 268 2 1 yX7_pop 8 8 := by
  intro p l e R s m args below meth c T locs cells slots X hx hts hnw hown g Ar rest hg hn hst hd hr
  obtain ⟨b, As, ci, cell, rfl, h1, h2, hc1, hc2, hc3⟩ := hr
  obtain rfl : ci = 7 := by omega
  exact into_V X hx (C := RX7) hown (hts _ q1625) (hts _ q1627) (hts _ qs60) (hts _ q1628) ⟨by decide, by decide⟩ hc1 hc2 (hc3 _ rfl) hg (n := 0) (Nat.succ.inj hn) (by decide +kernel) (by simpa using hst) hd
theorem cl_8271 : clOK RX7 271 2 3 yX11_forget 12 12 := by
  intro p l e R s m args below meth c T locs cells slots X hx hts hnw hown g Ar rest hg hn hst hd hr
  obtain ⟨b, As, ci, cell, rfl, h1, h2, hc1, hc2, hc3⟩ := hr
  obtain rfl : ci = 11 := by omega
  exact into_V X hx (C := RX11) hown (hts _ q1854) (hts _ q1855) (hts _ q1856) (hts _ q1857) ⟨by decide, by decide⟩ hc1 hc2 (hc3 _ rfl) hg (n := 2) (Nat.succ.inj hn) (by decide +kernel) (by simpa using hst) hd
theorem cl_8274 : clOK RX7 274 2 3 yX7_increase 8 8 := by
  intro p l e R s m args below meth c T locs cells slots X hx hts hnw hown g Ar rest hg hn hst hd hr
  obtain ⟨b, As, ci, cell, rfl, h1, h2, hc1, hc2, hc3⟩ := hr
  obtain rfl : ci = 7 := by omega
  exact into_V X hx (C := RX7) hown (hts _ q1858) (hts _ q1860) (hts _ qs95) (hts _ q1861) ⟨by decide, by decide⟩ hc1 hc2 (hc3 _ rfl) hg (n := 2) (Nat.succ.inj hn) (by decide +kernel) (by simpa using hst) hd
theorem cl_8277 : clOK RX7 277 2 2 yX7_throwing 8 8 := by
  intro p l e R s m args below meth c T locs cells slots X hx hts hnw hown g Ar rest hg hn hst hd hr
  obtain ⟨b, As, ci, cell, rfl, h1, h2, hc1, hc2, hc3⟩ := hr
  obtain rfl : ci = 7 := by omega
  exact into_V X hx (C := RX7) hown (hts _ q1862) (hts _ q1864) (hts _ qs96) (hts _ q1865) ⟨by decide, by decide⟩ hc1 hc2 (hc3 _ rfl) hg (n := 1) (Nat.succ.inj hn) (by decide +kernel) (by simpa using hst) hd
theorem cl_8280 : clOK RX7 280 2 3 yX7_end 8 8 := by
  intro p l e R s m args below meth c T locs cells slots X hx hts hnw hown g Ar rest hg hn hst hd hr
  obtain ⟨b, As, ci, cell, rfl, h1, h2, hc1, hc2, hc3⟩ := hr
  obtain rfl : ci = 7 := by omega
  exact into_V X hx (C := RX7) hown (hts _ q1866) (hts _ q1868) (hts _ qs97) (hts _ q1869) ⟨by decide, by decide⟩ hc1 hc2 (hc3 _ rfl) hg (n := 2) (Nat.succ.inj hn) (by decide +kernel) (by simpa using hst) hd
theorem cl_8289 : clOK RX7 289 2 6 yX9_work 10 10 := by
  intro p l e R s m args below meth c T locs cells slots X hx hts hnw hown g Ar rest hg hn hst hd hr
  obtain ⟨b, As, ci, cell, rfl, h1, h2, hc1, hc2, hc3⟩ := hr
  obtain rfl : ci = 9 := by omega
  exact into_V X hx (C := RX9) hown (hts _ q1719) (hts _ q1720) (hts _ q1721) (hts _ q1722) ⟨by decide, by decide⟩ hc1 hc2 (hc3 _ rfl) hg (n := 5) (Nat.succ.inj hn) (by decide +kernel) (by simpa using hst) hd
theorem cl_8299 : clOK RX7 299 0 1 yX7_hasNull 8 8 := by
  intro p l e R s m args below meth c T locs cells slots X hx hts hnw hown g Ar rest hg hn hst hd hr
  exact into_S X hx hown (hts _ q1802) (hts _ q1803) (hts _ q258) (hts _ q1804) ⟨by decide, by decide⟩ hg hn (by decide +kernel) hst hd
theorem cl_8303 : clOK RX7 303 2 2 yX7_raise 8 8 := by
  intro p l e R s m args below meth c T locs cells slots X hx hts hnw hown g Ar rest hg hn hst hd hr
  obtain ⟨b, As, ci, cell, rfl, h1, h2, hc1, hc2, hc3⟩ := hr
  obtain rfl : ci = 7 := by omega
  exact into_V X hx (C := RX7) hown (hts _ q1715) (hts _ q1717) (hts _ qs71) (hts _ q1718) ⟨by decide, by decide⟩ hc1 hc2 (hc3 _ rfl) hg (n := 1) (Nat.succ.inj hn) (by decide +kernel) (by simpa using hst) hd
theorem cl_8306 : clOK RX7 306 0 1 yX7_objects 8 8 := by
  intro p l e R s m args below meth c T locs cells slots X hx hts hnw hown g Ar rest hg hn hst hd hr
  exact into_S X hx hown (hts _ q1638) (hts _ q1639) (hts _ q258) (hts _ q1640) ⟨by decide, by decide⟩ hg hn (by decide +kernel) hst hd
theorem cl_8310 : clOK RX7 310 2 4 yX12_add 13 13 := by
  intro p l e R s m args below meth c T locs cells slots X hx hts hnw hown g Ar rest hg hn hst hd hr
  obtain ⟨b, As, ci, cell, rfl, h1, h2, hc1, hc2, hc3⟩ := hr
  obtain rfl : ci = 12 := by omega
  exact into_V X hx (C := RX12) hown (hts _ q1771) (hts _ q1772) (hts _ q1773) (hts _ q1774) ⟨by decide, by decide⟩ hc1 hc2 (hc3 _ rfl) hg (n := 3) (Nat.succ.inj hn) (by decide +kernel) (by simpa using hst) hd
theorem cl_8314 : clOK RX7 314 2 3 yX9_negate 10 10 := by
  intro p l e R s m args below meth c T locs cells slots X hx hts hnw hown g Ar rest hg hn hst hd hr
  obtain ⟨b, As, ci, cell, rfl, h1, h2, hc1, hc2, hc3⟩ := hr
  obtain rfl : ci = 9 := by omega
  exact into_V X hx (C := RX9) hown (hts _ q1687) (hts _ q1688) (hts _ q1689) (hts _ q1690) ⟨by decide, by decide⟩ hc1 hc2 (hc3 _ rfl) hg (n := 2) (Nat.succ.inj hn) (by decide +kernel) (by simpa using hst) hd
theorem cl_8318 : clOK RX7 318 2 6 yX7_way 8 8 := by
  intro p l e R s m args below meth c T locs cells slots X hx hts hnw hown g Ar rest hg hn hst hd hr
  obtain ⟨b, As, ci, cell, rfl, h1, h2, hc1, hc2, hc3⟩ := hr
  obtain rfl : ci = 7 := by omega
  exact into_V X hx (C := RX7) hown (hts _ q1629) (hts _ q1631) (hts _ qs61) (hts _ q1632) ⟨by decide, by decide⟩ hc1 hc2 (hc3 _ rfl) hg (n := 5) (Nat.succ.inj hn) (by decide +kernel) (by simpa using hst) hd
theorem cl_8322 : clOK RX7 322 2 4 yX7_nullWay 8 8 := by
  intro p l e R s m args below meth c T locs cells slots X hx hts hnw hown g Ar rest hg hn hst hd hr
  obtain ⟨b, As, ci, cell, rfl, h1, h2, hc1, hc2, hc3⟩ := hr
  obtain rfl : ci = 7 := by omega
  exact into_V X hx (C := RX7) hown (hts _ q1633) (hts _ q1635) (hts _ qs62) (hts _ q1636) ⟨by decide, by decide⟩ hc1 hc2 (hc3 _ rfl) hg (n := 3) (Nat.succ.inj hn) (by decide +kernel) (by simpa using hst) hd
theorem cl_8326 : clOK RX7 326 2 4 yX7_sameWay 8 8 := by
  intro p l e R s m args below meth c T locs cells slots X hx hts hnw hown g Ar rest hg hn hst hd hr
  obtain ⟨b, As, ci, cell, rfl, h1, h2, hc1, hc2, hc3⟩ := hr
  obtain rfl : ci = 7 := by omega
  exact into_V X hx (C := RX7) hown (hts _ q1645) (hts _ q1647) (hts _ qs63) (hts _ q1648) ⟨by decide, by decide⟩ hc1 hc2 (hc3 _ rfl) hg (n := 3) (Nat.succ.inj hn) (by decide +kernel) (by simpa using hst) hd
theorem cl_8330 : clOK RX7 330 0 1 yX7_contrary 8 8 := by
  intro p l e R s m args below meth c T locs cells slots X hx hts hnw hown g Ar rest hg hn hst hd hr
  exact into_S X hx hown (hts _ q1649) (hts _ q1650) (hts _ q258) (hts _ q1651) ⟨by decide, by decide⟩ hg hn (by decide +kernel) hst hd
theorem cl_8334 : clOK RX7 334 2 5 yX7_relate 8 8 := by
  intro p l e R s m args below meth c T locs cells slots X hx hts hnw hown g Ar rest hg hn hst hd hr
  obtain ⟨b, As, ci, cell, rfl, h1, h2, hc1, hc2, hc3⟩ := hr
  obtain rfl : ci = 7 := by omega
  exact into_V X hx (C := RX7) hown (hts _ q1652) (hts _ q1654) (hts _ qs64) (hts _ q1655) ⟨by decide, by decide⟩ hc1 hc2 (hc3 _ rfl) hg (n := 4) (Nat.succ.inj hn) (by decide +kernel) (by simpa using hst) hd
theorem cl_8338 : clOK RX7 338 2 3 yX7_learn 8 8 := by
  intro p l e R s m args below meth c T locs cells slots X hx hts hnw hown g Ar rest hg hn hst hd hr
  obtain ⟨b, As, ci, cell, rfl, h1, h2, hc1, hc2, hc3⟩ := hr
  obtain rfl : ci = 7 := by omega
  exact into_V X hx (C := RX7) hown (hts _ q1677) (hts _ q1679) (hts _ qs66) (hts _ q1680) ⟨by decide, by decide⟩ hc1 hc2 (hc3 _ rfl) hg (n := 2) (Nat.succ.inj hn) (by decide +kernel) (by simpa using hst) hd
theorem cl_8342 : clOK RX7 342 0 3 yX7_keep 8 8 := by
  intro p l e R s m args below meth c T locs cells slots X hx hts hnw hown g Ar rest hg hn hst hd hr
  exact into_S X hx hown (hts _ q1642) (hts _ q1643) (hts _ q258) (hts _ q1644) ⟨by decide, by decide⟩ hg hn (by decide +kernel) hst hd
theorem cl_8346 : clOK RX7 346 0 2 yJ5_max_2 20 20 := by
  intro p l e R s m args below meth c T locs cells slots X hx hts hnw hown g Ar rest hg hn hst hd hr
  exact into_S X hx hown (hts _ q1660) (hts _ q1661) (hts _ q269) (hts _ q1662) ⟨by decide, by decide⟩ hg hn (by decide +kernel) hst hd
theorem cl_8352 : clOK RX7 352 0 2 yJ5_min_2 20 20 := by
  intro p l e R s m args below meth c T locs cells slots X hx hts hnw hown g Ar rest hg hn hst hd hr
  exact into_S X hx hown (hts _ q1663) (hts _ q1664) (hts _ q269) (hts _ q1665) ⟨by decide, by decide⟩ hg hn (by decide +kernel) hst hd
theorem cl_8355 : clOK RX7 355 2 2 yX8_down 9 9 := by
  intro p l e R s m args below meth c T locs cells slots X hx hts hnw hown g Ar rest hg hn hst hd hr
  obtain ⟨b, As, ci, cell, rfl, h1, h2, hc1, hc2, hc3⟩ := hr
  obtain rfl : ci = 8 := by omega
  exact into_V X hx (C := RX8) hown (hts _ q1666) (hts _ q1667) (hts _ q1668) (hts _ q1669) ⟨by decide, by decide⟩ hc1 hc2 (hc3 _ rfl) hg (n := 1) (Nat.succ.inj hn) (by decide +kernel) (by simpa using hst) hd
theorem cl_8359 : clOK RX7 359 2 2 yX8_up 9 9 := by
  intro p l e R s m args below meth c T locs cells slots X hx hts hnw hown g Ar rest hg hn hst hd hr
  obtain ⟨b, As, ci, cell, rfl, h1, h2, hc1, hc2, hc3⟩ := hr
  obtain rfl : ci = 8 := by omega
  exact into_V X hx (C := RX8) hown (hts _ q1670) (hts _ q1671) (hts _ q1672) (hts _ q1673) ⟨by decide, by decide⟩ hc1 hc2 (hc3 _ rfl) hg (n := 1) (Nat.succ.inj hn) (by decide +kernel) (by simpa using hst) hd
theorem cl_8362 : clOK RX7 362 2 5 yX7_cut 8 8 := by
  intro p l e R s m args below meth c T locs cells slots X hx hts hnw hown g Ar rest hg hn hst hd hr
  obtain ⟨b, As, ci, cell, rfl, h1, h2, hc1, hc2, hc3⟩ := hr
  obtain rfl : ci = 7 := by omega
  exact into_V X hx (C := RX7) hown (hts _ q1656) (hts _ q1658) (hts _ qs65) (hts _ q1659) ⟨by decide, by decide⟩ hc1 hc2 (hc3 _ rfl) hg (n := 4) (Nat.succ.inj hn) (by decide +kernel) (by simpa using hst) hd
theorem cl_8374 : clOK RX7 374 0 1 yX7_bit 8 8 := by
  intro p l e R s m args below meth c T locs cells slots X hx hts hnw hown g Ar rest hg hn hst hd hr
  exact into_S X hx hown (hts _ q1674) (hts _ q1675) (hts _ q258) (hts _ q1676) ⟨by decide, by decide⟩ hg hn (by decide +kernel) hst hd
theorem cl_8377 : clOK RX7 377 0 2 yJ5_max 20 20 := by
  intro p l e R s m args below meth c T locs cells slots X hx hts hnw hown g Ar rest hg hn hst hd hr
  exact into_S X hx hown (hts _ q1681) (hts _ q1610) (hts _ q269) (hts _ q1611) ⟨by decide, by decide⟩ hg hn (by decide +kernel) hst hd
theorem cl_8380 : clOK RX7 380 0 2 yJ5_min 20 20 := by
  intro p l e R s m args below meth c T locs cells slots X hx hts hnw hown g Ar rest hg hn hst hd hr
  exact into_S X hx hown (hts _ q1682) (hts _ q1120) (hts _ q269) (hts _ q1121) ⟨by decide, by decide⟩ hg hn (by decide +kernel) hst hd
theorem cl_8382 : clOK RX7 382 2 2 yX7_makeObject 8 8 := by
  intro p l e R s m args below meth c T locs cells slots X hx hts hnw hown g Ar rest hg hn hst hd hr
  obtain ⟨b, As, ci, cell, rfl, h1, h2, hc1, hc2, hc3⟩ := hr
  obtain rfl : ci = 7 := by omega
  exact into_V X hx (C := RX7) hown (hts _ q1756) (hts _ q1758) (hts _ qs78) (hts _ q1759) ⟨by decide, by decide⟩ hc1 hc2 (hc3 _ rfl) hg (n := 1) (Nat.succ.inj hn) (by decide +kernel) (by simpa using hst) hd
theorem cl_8385 : clOK RX7 385 2 3 yX7_makeArray 8 8 := by
  intro p l e R s m args below meth c T locs cells slots X hx hts hnw hown g Ar rest hg hn hst hd hr
  obtain ⟨b, As, ci, cell, rfl, h1, h2, hc1, hc2, hc3⟩ := hr
  obtain rfl : ci = 7 := by omega
  exact into_V X hx (C := RX7) hown (hts _ q1789) (hts _ q1791) (hts _ qs82) (hts _ q1792) ⟨by decide, by decide⟩ hc1 hc2 (hc3 _ rfl) hg (n := 2) (Nat.succ.inj hn) (by decide +kernel) (by simpa using hst) hd
theorem cl_8388 : clOK RX7 388 2 2 yX7_length 8 8 := by
  intro p l e R s m args below meth c T locs cells slots X hx hts hnw hown g Ar rest hg hn hst hd hr
  obtain ⟨b, As, ci, cell, rfl, h1, h2, hc1, hc2, hc3⟩ := hr
  obtain rfl : ci = 7 := by omega
  exact into_V X hx (C := RX7) hown (hts _ q1794) (hts _ q1796) (hts _ qs83) (hts _ q1797) ⟨by decide, by decide⟩ hc1 hc2 (hc3 _ rfl) hg (n := 1) (Nat.succ.inj hn) (by decide +kernel) (by simpa using hst) hd
theorem cl_8391 : clOK RX7 391 2 3 yX7_index 8 8 := by
  intro p l e R s m args below meth c T locs cells slots X hx hts hnw hown g Ar rest hg hn hst hd hr
  obtain ⟨b, As, ci, cell, rfl, h1, h2, hc1, hc2, hc3⟩ := hr
  obtain rfl : ci = 7 := by omega
  exact into_V X hx (C := RX7) hown (hts _ q1814) (hts _ q1816) (hts _ qs87) (hts _ q1817) ⟨by decide, by decide⟩ hc1 hc2 (hc3 _ rfl) hg (n := 2) (Nat.succ.inj hn) (by decide +kernel) (by simpa using hst) hd
theorem cl_8394 : clOK RX7 394 2 5 yX7_loadAll 8 8 := by
  intro p l e R s m args below meth c T locs cells slots X hx hts hnw hown g Ar rest hg hn hst hd hr
  obtain ⟨b, As, ci, cell, rfl, h1, h2, hc1, hc2, hc3⟩ := hr
  obtain rfl : ci = 7 := by omega
  exact into_V X hx (C := RX7) hown (hts _ q1805) (hts _ q1807) (hts _ qs85) (hts _ q1808) ⟨by decide, by decide⟩ hc1 hc2 (hc3 _ rfl) hg (n := 4) (Nat.succ.inj hn) (by decide +kernel) (by simpa using hst) hd
theorem cl_8398 : clOK RX7 398 2 3 yX7_storeElements 8 8 := by
  intro p l e R s m args below meth c T locs cells slots X hx hts hnw hown g Ar rest hg hn hst hd hr
  obtain ⟨b, As, ci, cell, rfl, h1, h2, hc1, hc2, hc3⟩ := hr
  obtain rfl : ci = 7 := by omega
  exact into_V X hx (C := RX7) hown (hts _ q1819) (hts _ q1821) (hts _ qs88) (hts _ q1822) ⟨by decide, by decide⟩ hc1 hc2 (hc3 _ rfl) hg (n := 2) (Nat.succ.inj hn) (by decide +kernel) (by simpa using hst) hd
theorem cl_8401 : clOK RX7 401 2 2 yX7_dereference 8 8 := by
  intro p l e R s m args below meth c T locs cells slots X hx hts hnw hown g Ar rest hg hn hst hd hr
  obtain ⟨b, As, ci, cell, rfl, h1, h2, hc1, hc2, hc3⟩ := hr
  obtain rfl : ci = 7 := by omega
  exact into_V X hx (C := RX7) hown (hts _ q1798) (hts _ q1800) (hts _ qs84) (hts _ q1801) ⟨by decide, by decide⟩ hc1 hc2 (hc3 _ rfl) hg (n := 1) (Nat.succ.inj hn) (by decide +kernel) (by simpa using hst) hd
theorem cl_8407 : clOK RX7 407 2 4 yX7_storeFields 8 8 := by
  intro p l e R s m args below meth c T locs cells slots X hx hts hnw hown g Ar rest hg hn hst hd hr
  obtain ⟨b, As, ci, cell, rfl, h1, h2, hc1, hc2, hc3⟩ := hr
  obtain rfl : ci = 7 := by omega
  exact into_V X hx (C := RX7) hown (hts _ q1823) (hts _ q1825) (hts _ qs89) (hts _ q1826) ⟨by decide, by decide⟩ hc1 hc2 (hc3 _ rfl) hg (n := 3) (Nat.succ.inj hn) (by decide +kernel) (by simpa using hst) hd
theorem cl_8411 : clOK RX7 411 2 3 yX7_cast 8 8 := by
  intro p l e R s m args below meth c T locs cells slots X hx hts hnw hown g Ar rest hg hn hst hd hr
  obtain ⟨b, As, ci, cell, rfl, h1, h2, hc1, hc2, hc3⟩ := hr
  obtain rfl : ci = 7 := by omega
  exact into_V X hx (C := RX7) hown (hts _ q1827) (hts _ q1829) (hts _ qs90) (hts _ q1830) ⟨by decide, by decide⟩ hc1 hc2 (hc3 _ rfl) hg (n := 2) (Nat.succ.inj hn) (by decide +kernel) (by simpa using hst) hd
theorem cl_8414 : clOK RX7 414 2 3 yX7_is 8 8 := by
  intro p l e R s m args below meth c T locs cells slots X hx hts hnw hown g Ar rest hg hn hst hd hr
  obtain ⟨b, As, ci, cell, rfl, h1, h2, hc1, hc2, hc3⟩ := hr
  obtain rfl : ci = 7 := by omega
  exact into_V X hx (C := RX7) hown (hts _ q1831) (hts _ q1833) (hts _ qs91) (hts _ q1834) ⟨by decide, by decide⟩ hc1 hc2 (hc3 _ rfl) hg (n := 2) (Nat.succ.inj hn) (by decide +kernel) (by simpa using hst) hd
theorem cl_8422 : clOK RX7 422 2 3 yX14_isClassBelow 15 15 := by
  intro p l e R s m args below meth c T locs cells slots X hx hts hnw hown g Ar rest hg hn hst hd hr
  obtain ⟨b, As, ci, cell, rfl, h1, h2, hc1, hc2, hc3⟩ := hr
  obtain rfl : ci = 14 := by omega
  exact into_V X hx (C := RX14) hown (hts _ q1760) (hts _ q1352) (hts _ q1353) (hts _ q1354) ⟨by decide, by decide⟩ hc1 hc2 (hc3 _ rfl) hg (n := 2) (Nat.succ.inj hn) (by decide +kernel) (by simpa using hst) hd
theorem cl_8428 : clOK RX7 428 2 2 yX7_zero 8 8 := by
  intro p l e R s m args below meth c T locs cells slots X hx hts hnw hown g Ar rest hg hn hst hd hr
  obtain ⟨b, As, ci, cell, rfl, h1, h2, hc1, hc2, hc3⟩ := hr
  obtain rfl : ci = 7 := by omega
  exact into_V X hx (C := RX7) hown (hts _ q1761) (hts _ q1763) (hts _ qs79) (hts _ q1764) ⟨by decide, by decide⟩ hc1 hc2 (hc3 _ rfl) hg (n := 1) (Nat.succ.inj hn) (by decide +kernel) (by simpa using hst) hd
theorem cl_8431 : clOK RX7 431 0 1 yX14_element 15 15 := by
  intro p l e R s m args below meth c T locs cells slots X hx hts hnw hown g Ar rest hg hn hst hd hr
  exact into_S X hx hown (hts _ q1793) (hts _ q1509) (hts _ q265) (hts _ q1510) ⟨by decide, by decide⟩ hg hn (by decide +kernel) hst hd
theorem cl_8434 : clOK RX7 434 2 4 yX10_joinValue 12 12 := by
  intro p l e R s m args below meth c T locs cells slots X hx hts hnw hown g Ar rest hg hn hst hd hr
  obtain ⟨b, As, ci, cell, rfl, h1, h2, hc1, hc2, hc3⟩ := hr
  obtain rfl : ci = 11 := by omega
  exact into_U X hx (C := RX11) (owner := "SafeCode$Values") (x := ⟨"SafeCode$Slots", "joinValue", "(ILSafeCode$Values;I)Z"⟩) hown (hts _ q1813) (hts _ q1602) rfl ⟨by decide, by decide⟩ (hts _ q1604) (hts _ q1605) (hts _ q1606) hc1 hc2 (hc3 _ rfl) hg (n := 3) (Nat.succ.inj hn) (by decide +kernel) (by simpa using hst) hd
theorem cl_8440 : clOK RX7 440 2 3 yX7_joined 8 8 := by
  intro p l e R s m args below meth c T locs cells slots X hx hts hnw hown g Ar rest hg hn hst hd hr
  obtain ⟨b, As, ci, cell, rfl, h1, h2, hc1, hc2, hc3⟩ := hr
  obtain rfl : ci = 7 := by omega
  exact into_V X hx (C := RX7) hown (hts _ q1809) (hts _ q1811) (hts _ qs86) (hts _ q1812) ⟨by decide, by decide⟩ hc1 hc2 (hc3 _ rfl) hg (n := 2) (Nat.succ.inj hn) (by decide +kernel) (by simpa using hst) hd
theorem cl_8450 : clOK RX7 450 2 5 yX7_pass 8 8 := by
  intro p l e R s m args below meth c T locs cells slots X hx hts hnw hown g Ar rest hg hn hst hd hr
  obtain ⟨b, As, ci, cell, rfl, h1, h2, hc1, hc2, hc3⟩ := hr
  obtain rfl : ci = 7 := by omega
  exact into_V X hx (C := RX7) hown (hts _ q1840) (hts _ q1842) (hts _ qs93) (hts _ q1843) ⟨by decide, by decide⟩ hc1 hc2 (hc3 _ rfl) hg (n := 4) (Nat.succ.inj hn) (by decide +kernel) (by simpa using hst) hd
theorem cl_8454 : clOK RX7 454 2 3 yX14_method 15 15 := by
  intro p l e R s m args below meth c T locs cells slots X hx hts hnw hown g Ar rest hg hn hst hd hr
  obtain ⟨b, As, ci, cell, rfl, h1, h2, hc1, hc2, hc3⟩ := hr
  obtain rfl : ci = 14 := by omega
  exact into_V X hx (C := RX14) hown (hts _ q1844) (hts _ q1845) (hts _ q1846) (hts _ q1847) ⟨by decide, by decide⟩ hc1 hc2 (hc3 _ rfl) hg (n := 2) (Nat.succ.inj hn) (by decide +kernel) (by simpa using hst) hd
theorem cl_9020 : clOK RX8 20 2 2 yX8_add 9 9 := by
  intro p l e R s m args below meth c T locs cells slots X hx hts hnw hown g Ar rest hg hn hst hd hr
  obtain ⟨b, As, ci, cell, rfl, h1, h2, hc1, hc2, hc3⟩ := hr
  obtain rfl : ci = 8 := by omega
  exact into_V X hx (C := RX8) hown (hts _ q1547) (hts _ q1549) (hts _ qs53) (hts _ q1550) ⟨by decide, by decide⟩ hc1 hc2 (hc3 _ rfl) hg (n := 1) (Nat.succ.inj hn) (by decide +kernel) (by simpa using hst) hd
theorem cl_10019 : clOK RX9 19 2 2 yX8_down 9 9 := by
  intro p l e R s m args below meth c T locs cells slots X hx hts hnw hown g Ar rest hg hn hst hd hr
  obtain ⟨b, As, ci, cell, rfl, h1, h2, hc1, hc2, hc3⟩ := hr
  obtain rfl : ci = 8 := by omega
  exact into_V X hx (C := RX8) hown (hts _ q1697) (hts _ q1667) (hts _ q1668) (hts _ q1669) ⟨by decide, by decide⟩ hc1 hc2 (hc3 _ rfl) hg (n := 1) (Nat.succ.inj hn) (by decide +kernel) (by simpa using hst) hd
theorem cl_10030 : clOK RX9 30 2 2 yX8_up 9 9 := by
  intro p l e R s m args below meth c T locs cells slots X hx hts hnw hown g Ar rest hg hn hst hd hr
  obtain ⟨b, As, ci, cell, rfl, h1, h2, hc1, hc2, hc3⟩ := hr
  obtain rfl : ci = 8 := by omega
  exact into_V X hx (C := RX8) hown (hts _ q1699) (hts _ q1671) (hts _ q1672) (hts _ q1673) ⟨by decide, by decide⟩ hc1 hc2 (hc3 _ rfl) hg (n := 1) (Nat.succ.inj hn) (by decide +kernel) (by simpa using hst) hd
theorem cl_10037 : clOK RX9 37 2 3 yX9_put 10 10 := by
  intro p l e R s m args below meth c T locs cells slots X hx hts hnw hown g Ar rest hg hn hst hd hr
  obtain ⟨b, As, ci, cell, rfl, h1, h2, hc1, hc2, hc3⟩ := hr
  obtain rfl : ci = 9 := by omega
  exact into_V X hx (C := RX9) hown (hts _ q1691) (hts _ q1693) (hts _ qs68) (hts _ q1694) ⟨by decide, by decide⟩ hc1 hc2 (hc3 _ rfl) hg (n := 2) (Nat.succ.inj hn) (by decide +kernel) (by simpa using hst) hd
theorem cl_10041 : clOK RX9 41 2 5 yX9_product 10 10 := by
  intro p l e R s m args below meth c T locs cells slots X hx hts hnw hown g Ar rest hg hn hst hd hr
  obtain ⟨b, As, ci, cell, rfl, h1, h2, hc1, hc2, hc3⟩ := hr
  obtain rfl : ci = 9 := by omega
  exact into_V X hx (C := RX9) hown (hts _ q1723) (hts _ q1725) (hts _ qs72) (hts _ q1726) ⟨by decide, by decide⟩ hc1 hc2 (hc3 _ rfl) hg (n := 4) (Nat.succ.inj hn) (by decide +kernel) (by simpa using hst) hd
theorem cl_10045 : clOK RX9 45 2 5 yX9_quotient 10 10 := by
  intro p l e R s m args below meth c T locs cells slots X hx hts hnw hown g Ar rest hg hn hst hd hr
  obtain ⟨b, As, ci, cell, rfl, h1, h2, hc1, hc2, hc3⟩ := hr
  obtain rfl : ci = 9 := by omega
  exact into_V X hx (C := RX9) hown (hts _ q1729) (hts _ q1731) (hts _ qs73) (hts _ q1732) ⟨by decide, by decide⟩ hc1 hc2 (hc3 _ rfl) hg (n := 4) (Nat.succ.inj hn) (by decide +kernel) (by simpa using hst) hd
theorem cl_10048 : clOK RX9 48 0 1 yJ5_abs 20 20 := by
  intro p l e R s m args below meth c T locs cells slots X hx hts hnw hown g Ar rest hg hn hst hd hr
  exact into_S X hx hown (hts _ q1740) (hts _ q1741) (hts _ q269) (hts _ q1742) ⟨by decide, by decide⟩ hg hn (by decide +kernel) hst hd
theorem cl_10054 : clOK RX9 54 0 2 yJ5_max_2 20 20 := by
  intro p l e R s m args below meth c T locs cells slots X hx hts hnw hown g Ar rest hg hn hst hd hr
  exact into_S X hx hown (hts _ q1728) (hts _ q1661) (hts _ q269) (hts _ q1662) ⟨by decide, by decide⟩ hg hn (by decide +kernel) hst hd
theorem cl_10058 : clOK RX9 58 2 4 yX9_rest 10 10 := by
  intro p l e R s m args below meth c T locs cells slots X hx hts hnw hown g Ar rest hg hn hst hd hr
  obtain ⟨b, As, ci, cell, rfl, h1, h2, hc1, hc2, hc3⟩ := hr
  obtain rfl : ci = 9 := by omega
  exact into_V X hx (C := RX9) hown (hts _ q1743) (hts _ q1745) (hts _ qs75) (hts _ q1746) ⟨by decide, by decide⟩ hc1 hc2 (hc3 _ rfl) hg (n := 3) (Nat.succ.inj hn) (by decide +kernel) (by simpa using hst) hd
theorem cl_10062 : clOK RX9 62 2 6 yX9_bits 10 10 := by
  intro p l e R s m args below meth c T locs cells slots X hx hts hnw hown g Ar rest hg hn hst hd hr
  obtain ⟨b, As, ci, cell, rfl, h1, h2, hc1, hc2, hc3⟩ := hr
  obtain rfl : ci = 9 := by omega
  exact into_V X hx (C := RX9) hown (hts _ q1747) (hts _ q1749) (hts _ qs76) (hts _ q1750) ⟨by decide, by decide⟩ hc1 hc2 (hc3 _ rfl) hg (n := 5) (Nat.succ.inj hn) (by decide +kernel) (by simpa using hst) hd
theorem cl_10066 : clOK RX9 66 0 2 yJ5_min_2 20 20 := by
  intro p l e R s m args below meth c T locs cells slots X hx hts hnw hown g Ar rest hg hn hst hd hr
  exact into_S X hx hown (hts _ q1727) (hts _ q1664) (hts _ q269) (hts _ q1665) ⟨by decide, by decide⟩ hg hn (by decide +kernel) hst hd
theorem cl_10082 : clOK RX9 82 2 4 yX9_divide 10 10 := by
  intro p l e R s m args below meth c T locs cells slots X hx hts hnw hown g Ar rest hg hn hst hd hr
  obtain ⟨b, As, ci, cell, rfl, h1, h2, hc1, hc2, hc3⟩ := hr
  obtain rfl : ci = 9 := by omega
  exact into_V X hx (C := RX9) hown (hts _ q1735) (hts _ q1737) (hts _ qs74) (hts _ q1738) ⟨by decide, by decide⟩ hc1 hc2 (hc3 _ rfl) hg (n := 3) (Nat.succ.inj hn) (by decide +kernel) (by simpa using hst) hd
theorem cl_11025 : clOK RX10 25 2 2 yX10_unset 12 13 := by
  intro p l e R s m args below meth c T locs cells slots X hx hts hnw hown g Ar rest hg hn hst hd hr
  obtain ⟨b, As, ci, cell, rfl, h1, h2, hc1, hc2, hc3⟩ := hr
  rcases (show ci = 11 ∨ ci = 12 by omega) with rfl | rfl
  · exact into_V X hx (C := RX11) hown (hts _ q1607) (hts _ q1576) (hts _ q3158) (hts _ q1577) ⟨by decide, by decide⟩ hc1 hc2 (hc3 _ rfl) hg (n := 1) (Nat.succ.inj hn) (by decide +kernel) (by simpa using hst) hd
  · exact into_V X hx (C := RX12) hown (hts _ q1607) (hts _ q1576) (hts _ q3159) (hts _ q1577) ⟨by decide, by decide⟩ hc1 hc2 (hc3 _ rfl) hg (n := 1) (Nat.succ.inj hn) (by decide +kernel) (by simpa using hst) hd
theorem cl_11029 : clOK RX10 29 0 2 yJ5_min 20 20 := by
  intro p l e R s m args below meth c T locs cells slots X hx hts hnw hown g Ar rest hg hn hst hd hr
  exact into_S X hx hown (hts _ q1608) (hts _ q1120) (hts _ q269) (hts _ q1121) ⟨by decide, by decide⟩ hg hn (by decide +kernel) hst hd
theorem cl_11035 : clOK RX10 35 0 2 yJ5_max 20 20 := by
  intro p l e R s m args below meth c T locs cells slots X hx hts hnw hown g Ar rest hg hn hst hd hr
  exact into_S X hx hown (hts _ q1609) (hts _ q1610) (hts _ q269) (hts _ q1611) ⟨by decide, by decide⟩ hg hn (by decide +kernel) hst hd
theorem cl_12003 : clOK RX11 3 1 2 yX10_init 12 13 := by
  intro p l e R s m args below meth c T locs cells slots X hx hts hnw hown g Ar rest hg hn hst hd hr
  obtain ⟨b, As, ci, cell, rfl, h1, h2, hc1, hc2, hc3⟩ := hr
  exact into_I X hx hown rfl (hts _ q577) (hts _ q578) (hts _ q579) ⟨by decide, by decide⟩ hg (n := 1) (Nat.succ.inj hn) (by decide +kernel) (by simpa using hst) hd
theorem cl_12024 : clOK RX11 24 2 4 yX10_putValue 12 12 := by
  intro p l e R s m args below meth c T locs cells slots X hx hts hnw hown g Ar rest hg hn hst hd hr
  obtain ⟨b, As, ci, cell, rfl, h1, h2, hc1, hc2, hc3⟩ := hr
  obtain rfl : ci = 11 := by omega
  exact into_U X hx (C := RX11) (owner := "SafeCode$Values") (x := ⟨"SafeCode$Slots", "putValue", "(ILSafeCode$Values;I)V"⟩) hown (hts _ q1596) (hts _ q1583) rfl ⟨by decide, by decide⟩ (hts _ q1585) (hts _ q1586) (hts _ q1587) hc1 hc2 (hc3 _ rfl) hg (n := 3) (Nat.succ.inj hn) (by decide +kernel) (by simpa using hst) hd
theorem cl_12028 : clOK RX11 28 2 4 yX10_joinValue 12 12 := by
  intro p l e R s m args below meth c T locs cells slots X hx hts hnw hown g Ar rest hg hn hst hd hr
  obtain ⟨b, As, ci, cell, rfl, h1, h2, hc1, hc2, hc3⟩ := hr
  obtain rfl : ci = 11 := by omega
  exact into_U X hx (C := RX11) (owner := "SafeCode$Values") (x := ⟨"SafeCode$Slots", "joinValue", "(ILSafeCode$Values;I)Z"⟩) hown (hts _ q1601) (hts _ q1602) rfl ⟨by decide, by decide⟩ (hts _ q1604) (hts _ q1605) (hts _ q1606) hc1 hc2 (hc3 _ rfl) hg (n := 3) (Nat.succ.inj hn) (by decide +kernel) (by simpa using hst) hd
theorem cl_12035 : clOK RX11 35 2 2 yX11_plain 12 12 := by
  intro p l e R s m args below meth c T locs cells slots X hx hts hnw hown g Ar rest hg hn hst hd hr
  obtain ⟨b, As, ci, cell, rfl, h1, h2, hc1, hc2, hc3⟩ := hr
  obtain rfl : ci = 11 := by omega
  exact into_V X hx (C := RX11) hown (hts _ q1612) (hts _ q1579) (hts _ q1580) (hts _ q1581) ⟨by decide, by decide⟩ hc1 hc2 (hc3 _ rfl) hg (n := 1) (Nat.succ.inj hn) (by decide +kernel) (by simpa using hst) hd
theorem cl_13001 : clOK RX12 1 1 2 yX10_init 12 13 := by
  intro p l e R s m args below meth c T locs cells slots X hx hts hnw hown g Ar rest hg hn hst hd hr
  obtain ⟨b, As, ci, cell, rfl, h1, h2, hc1, hc2, hc3⟩ := hr
  exact into_I X hx hown rfl (hts _ q638) (hts _ q578) (hts _ q579) ⟨by decide, by decide⟩ hg (n := 1) (Nat.succ.inj hn) (by decide +kernel) (by simpa using hst) hd
theorem cl_13013 : clOK RX12 13 2 4 yX10_joinValue 13 13 := by
  intro p l e R s m args below meth c T locs cells slots X hx hts hnw hown g Ar rest hg hn hst hd hr
  obtain ⟨b, As, ci, cell, rfl, h1, h2, hc1, hc2, hc3⟩ := hr
  obtain rfl : ci = 12 := by omega
  exact into_U X hx (C := RX12) (owner := "SafeCode$Values") (x := ⟨"SafeCode$Unknowns", "joinValue", "(ILSafeCode$Values;I)Z"⟩) hown (hts _ q1775) (hts _ q1776) rfl ⟨by decide, by decide⟩ (hts _ q1777) (hts _ q1605) (hts _ q1606) hc1 hc2 (hc3 _ rfl) hg (n := 3) (Nat.succ.inj hn) (by decide +kernel) (by simpa using hst) hd
theorem cl_13017 : clOK RX12 17 2 4 yX10_putValue 13 13 := by
  intro p l e R s m args below meth c T locs cells slots X hx hts hnw hown g Ar rest hg hn hst hd hr
  obtain ⟨b, As, ci, cell, rfl, h1, h2, hc1, hc2, hc3⟩ := hr
  obtain rfl : ci = 12 := by omega
  exact into_U X hx (C := RX12) (owner := "SafeCode$Values") (x := ⟨"SafeCode$Unknowns", "putValue", "(ILSafeCode$Values;I)V"⟩) hown (hts _ q1778) (hts _ q1779) rfl ⟨by decide, by decide⟩ (hts _ q1780) (hts _ q1586) (hts _ q1587) hc1 hc2 (hc3 _ rfl) hg (n := 3) (Nat.succ.inj hn) (by decide +kernel) (by simpa using hst) hd
theorem cl_14076 : clOK RX13 76 2 2 yX13_enter 14 14 := by
  intro p l e R s m args below meth c T locs cells slots X hx hts hnw hown g Ar rest hg hn hst hd hr
  obtain ⟨b, As, ci, cell, rfl, h1, h2, hc1, hc2, hc3⟩ := hr
  obtain rfl : ci = 13 := by omega
  exact into_V X hx (C := RX13) hown (hts _ q1944) (hts _ q1946) (hts _ qs101) (hts _ q1947) ⟨by decide, by decide⟩ hc1 hc2 (hc3 _ rfl) hg (n := 1) (Nat.succ.inj hn) (by decide +kernel) (by simpa using hst) hd
theorem cl_14083 : clOK RX13 83 2 2 yX13_step 14 14 := by
  intro p l e R s m args below meth c T locs cells slots X hx hts hnw hown g Ar rest hg hn hst hd hr
  obtain ⟨b, As, ci, cell, rfl, h1, h2, hc1, hc2, hc3⟩ := hr
  obtain rfl : ci = 13 := by omega
  exact into_V X hx (C := RX13) hown (hts _ q1948) (hts _ q1950) (hts _ qs102) (hts _ q1951) ⟨by decide, by decide⟩ hc1 hc2 (hc3 _ rfl) hg (n := 1) (Nat.succ.inj hn) (by decide +kernel) (by simpa using hst) hd
theorem cl_14092 : clOK RX13 92 2 3 yX14_isBelow 15 15 := by
  intro p l e R s m args below meth c T locs cells slots X hx hts hnw hown g Ar rest hg hn hst hd hr
  obtain ⟨b, As, ci, cell, rfl, h1, h2, hc1, hc2, hc3⟩ := hr
  obtain rfl : ci = 14 := by omega
  exact into_V X hx (C := RX14) hown (hts _ q1976) (hts _ q1478) (hts _ q1479) (hts _ q1480) ⟨by decide, by decide⟩ hc1 hc2 (hc3 _ rfl) hg (n := 2) (Nat.succ.inj hn) (by decide +kernel) (by simpa using hst) hd
theorem cl_14096 : clOK RX13 96 2 3 yX13_make 14 14 := by
  intro p l e R s m args below meth c T locs cells slots X hx hts hnw hown g Ar rest hg hn hst hd hr
  obtain ⟨b, As, ci, cell, rfl, h1, h2, hc1, hc2, hc3⟩ := hr
  obtain rfl : ci = 13 := by omega
  exact into_V X hx (C := RX13) hown (hts _ q1968) (hts _ q1970) (hts _ qs107) (hts _ q1971) ⟨by decide, by decide⟩ hc1 hc2 (hc3 _ rfl) hg (n := 2) (Nat.succ.inj hn) (by decide +kernel) (by simpa using hst) hd
theorem cl_14100 : clOK RX13 100 2 2 yX13_unwind 14 14 := by
  intro p l e R s m args below meth c T locs cells slots X hx hts hnw hown g Ar rest hg hn hst hd hr
  obtain ⟨b, As, ci, cell, rfl, h1, h2, hc1, hc2, hc3⟩ := hr
  obtain rfl : ci = 13 := by omega
  exact into_V X hx (C := RX13) hown (hts _ q1972) (hts _ q1974) (hts _ qs108) (hts _ q1975) ⟨by decide, by decide⟩ hc1 hc2 (hc3 _ rfl) hg (n := 1) (Nat.succ.inj hn) (by decide +kernel) (by simpa using hst) hd
theorem cl_14115 : clOK RX13 115 2 2 yX13_push 14 14 := by
  intro p l e R s m args below meth c T locs cells slots X hx hts hnw hown g Ar rest hg hn hst hd hr
  obtain ⟨b, As, ci, cell, rfl, h1, h2, hc1, hc2, hc3⟩ := hr
  obtain rfl : ci = 13 := by omega
  exact into_V X hx (C := RX13) hown (hts _ q1960) (hts _ q1962) (hts _ qs105) (hts _ q1963) ⟨by decide, by decide⟩ hc1 hc2 (hc3 _ rfl) hg (n := 1) (Nat.succ.inj hn) (by decide +kernel) (by simpa using hst) hd
theorem cl_14124 : clOK RX13 124 2 2 yX13_compute 14 14 := by
  intro p l e R s m args below meth c T locs cells slots X hx hts hnw hown g Ar rest hg hn hst hd hr
  obtain ⟨b, As, ci, cell, rfl, h1, h2, hc1, hc2, hc3⟩ := hr
  obtain rfl : ci = 13 := by omega
  exact into_V X hx (C := RX13) hown (hts _ q1952) (hts _ q1954) (hts _ qs103) (hts _ q1955) ⟨by decide, by decide⟩ hc1 hc2 (hc3 _ rfl) hg (n := 1) (Nat.succ.inj hn) (by decide +kernel) (by simpa using hst) hd
theorem cl_14127 : clOK RX13 127 2 3 yX13_jump 14 14 := by
  intro p l e R s m args below meth c T locs cells slots X hx hts hnw hown g Ar rest hg hn hst hd hr
  obtain ⟨b, As, ci, cell, rfl, h1, h2, hc1, hc2, hc3⟩ := hr
  obtain rfl : ci = 13 := by omega
  exact into_V X hx (C := RX13) hown (hts _ q1980) (hts _ q1982) (hts _ qs109) (hts _ q1983) ⟨by decide, by decide⟩ hc1 hc2 (hc3 _ rfl) hg (n := 2) (Nat.succ.inj hn) (by decide +kernel) (by simpa using hst) hd
theorem cl_14131 : clOK RX13 131 2 3 yX13_heap 14 14 := by
  intro p l e R s m args below meth c T locs cells slots X hx hts hnw hown g Ar rest hg hn hst hd hr
  obtain ⟨b, As, ci, cell, rfl, h1, h2, hc1, hc2, hc3⟩ := hr
  obtain rfl : ci = 13 := by omega
  exact into_V X hx (C := RX13) hown (hts _ q1984) (hts _ q1986) (hts _ qs110) (hts _ q1987) ⟨by decide, by decide⟩ hc1 hc2 (hc3 _ rfl) hg (n := 2) (Nat.succ.inj hn) (by decide +kernel) (by simpa using hst) hd
theorem cl_14134 : clOK RX13 134 2 3 yX13_call 14 14 := by
  intro p l e R s m args below meth c T locs cells slots X hx hts hnw hown g Ar rest hg hn hst hd hr
  obtain ⟨b, As, ci, cell, rfl, h1, h2, hc1, hc2, hc3⟩ := hr
  obtain rfl : ci = 13 := by omega
  exact into_V X hx (C := RX13) hown (hts _ q2021) (hts _ q2023) (hts _ qs119) (hts _ q2024) ⟨by decide, by decide⟩ hc1 hc2 (hc3 _ rfl) hg (n := 2) (Nat.succ.inj hn) (by decide +kernel) (by simpa using hst) hd
theorem cl_14137 : clOK RX13 137 2 2 yX13_leave 14 14 := by
  intro p l e R s m args below meth c T locs cells slots X hx hts hnw hown g Ar rest hg hn hst hd hr
  obtain ⟨b, As, ci, cell, rfl, h1, h2, hc1, hc2, hc3⟩ := hr
  obtain rfl : ci = 13 := by omega
  exact into_V X hx (C := RX13) hown (hts _ q2030) (hts _ q2032) (hts _ qs121) (hts _ q2033) ⟨by decide, by decide⟩ hc1 hc2 (hc3 _ rfl) hg (n := 1) (Nat.succ.inj hn) (by decide +kernel) (by simpa using hst) hd
theorem cl_14140 : clOK RX13 140 2 1 yX13_pop 14 14 := by
  intro p l e R s m args below meth c T locs cells slots X hx hts hnw hown g Ar rest hg hn hst hd hr
  obtain ⟨b, As, ci, cell, rfl, h1, h2, hc1, hc2, hc3⟩ := hr
  obtain rfl : ci = 13 := by omega
  exact into_V X hx (C := RX13) hown (hts _ q1956) (hts _ q1958) (hts _ qs104) (hts _ q1959) ⟨by decide, by decide⟩ hc1 hc2 (hc3 _ rfl) hg (n := 0) (Nat.succ.inj hn) (by decide +kernel) (by simpa using hst) hd
theorem cl_14144 : clOK RX13 144 2 2 yX13_raise 14 14 := by
  intro p l e R s m args below meth c T locs cells slots X hx hts hnw hown g Ar rest hg hn hst hd hr
  obtain ⟨b, As, ci, cell, rfl, h1, h2, hc1, hc2, hc3⟩ := hr
  obtain rfl : ci = 13 := by omega
  exact into_V X hx (C := RX13) hown (hts _ q1964) (hts _ q1966) (hts _ qs106) (hts _ q1967) ⟨by decide, by decide⟩ hc1 hc2 (hc3 _ rfl) hg (n := 1) (Nat.succ.inj hn) (by decide +kernel) (by simpa using hst) hd
theorem cl_14147 : clOK RX13 147 2 3 yX13_simple 14 14 := by
  intro p l e R s m args below meth c T locs cells slots X hx hts hnw hown g Ar rest hg hn hst hd hr
  obtain ⟨b, As, ci, cell, rfl, h1, h2, hc1, hc2, hc3⟩ := hr
  obtain rfl : ci = 13 := by omega
  exact into_V X hx (C := RX13) hown (hts _ q2034) (hts _ q2036) (hts _ qs122) (hts _ q2037) ⟨by decide, by decide⟩ hc1 hc2 (hc3 _ rfl) hg (n := 2) (Nat.succ.inj hn) (by decide +kernel) (by simpa using hst) hd
theorem cl_14156 : clOK RX13 156 2 2 yX13_local 14 14 := by
  intro p l e R s m args below meth c T locs cells slots X hx hts hnw hown g Ar rest hg hn hst hd hr
  obtain ⟨b, As, ci, cell, rfl, h1, h2, hc1, hc2, hc3⟩ := hr
  obtain rfl : ci = 13 := by omega
  exact into_V X hx (C := RX13) hown (hts _ q2025) (hts _ q2027) (hts _ qs120) (hts _ q2028) ⟨by decide, by decide⟩ hc1 hc2 (hc3 _ rfl) hg (n := 1) (Nat.succ.inj hn) (by decide +kernel) (by simpa using hst) hd
theorem cl_14160 : clOK RX13 160 0 3 yX13_made 14 14 := by
  intro p l e R s m args below meth c T locs cells slots X hx hts hnw hown g Ar rest hg hn hst hd hr
  exact into_S X hx hown (hts _ q1977) (hts _ q1978) (hts _ q264) (hts _ q1979) ⟨by decide, by decide⟩ hg hn (by decide +kernel) hst hd
theorem cl_14167 : clOK RX13 167 2 2 yX13_give 14 14 := by
  intro p l e R s m args below meth c T locs cells slots X hx hts hnw hown g Ar rest hg hn hst hd hr
  obtain ⟨b, As, ci, cell, rfl, h1, h2, hc1, hc2, hc3⟩ := hr
  obtain rfl : ci = 13 := by omega
  exact into_V X hx (C := RX13) hown (hts _ q1988) (hts _ q1990) (hts _ qs111) (hts _ q1991) ⟨by decide, by decide⟩ hc1 hc2 (hc3 _ rfl) hg (n := 1) (Nat.succ.inj hn) (by decide +kernel) (by simpa using hst) hd
theorem cl_14171 : clOK RX13 171 2 3 yX13_makeArray 14 14 := by
  intro p l e R s m args below meth c T locs cells slots X hx hts hnw hown g Ar rest hg hn hst hd hr
  obtain ⟨b, As, ci, cell, rfl, h1, h2, hc1, hc2, hc3⟩ := hr
  obtain rfl : ci = 13 := by omega
  exact into_V X hx (C := RX13) hown (hts _ q1992) (hts _ q1994) (hts _ qs112) (hts _ q1995) ⟨by decide, by decide⟩ hc1 hc2 (hc3 _ rfl) hg (n := 2) (Nat.succ.inj hn) (by decide +kernel) (by simpa using hst) hd
theorem cl_14174 : clOK RX13 174 2 2 yX13_length 14 14 := by
  intro p l e R s m args below meth c T locs cells slots X hx hts hnw hown g Ar rest hg hn hst hd hr
  obtain ⟨b, As, ci, cell, rfl, h1, h2, hc1, hc2, hc3⟩ := hr
  obtain rfl : ci = 13 := by omega
  exact into_V X hx (C := RX13) hown (hts _ q2000) (hts _ q2002) (hts _ qs114) (hts _ q2003) ⟨by decide, by decide⟩ hc1 hc2 (hc3 _ rfl) hg (n := 1) (Nat.succ.inj hn) (by decide +kernel) (by simpa using hst) hd
theorem cl_14177 : clOK RX13 177 2 2 yX13_element 14 14 := by
  intro p l e R s m args below meth c T locs cells slots X hx hts hnw hown g Ar rest hg hn hst hd hr
  obtain ⟨b, As, ci, cell, rfl, h1, h2, hc1, hc2, hc3⟩ := hr
  obtain rfl : ci = 13 := by omega
  exact into_V X hx (C := RX13) hown (hts _ q2004) (hts _ q2006) (hts _ qs115) (hts _ q2007) ⟨by decide, by decide⟩ hc1 hc2 (hc3 _ rfl) hg (n := 1) (Nat.succ.inj hn) (by decide +kernel) (by simpa using hst) hd
theorem cl_14183 : clOK RX13 183 2 3 yX13_field 14 14 := by
  intro p l e R s m args below meth c T locs cells slots X hx hts hnw hown g Ar rest hg hn hst hd hr
  obtain ⟨b, As, ci, cell, rfl, h1, h2, hc1, hc2, hc3⟩ := hr
  obtain rfl : ci = 13 := by omega
  exact into_V X hx (C := RX13) hown (hts _ q2013) (hts _ q2015) (hts _ qs117) (hts _ q2016) ⟨by decide, by decide⟩ hc1 hc2 (hc3 _ rfl) hg (n := 2) (Nat.succ.inj hn) (by decide +kernel) (by simpa using hst) hd
theorem cl_14186 : clOK RX13 186 2 3 yX13_cast 14 14 := by
  intro p l e R s m args below meth c T locs cells slots X hx hts hnw hown g Ar rest hg hn hst hd hr
  obtain ⟨b, As, ci, cell, rfl, h1, h2, hc1, hc2, hc3⟩ := hr
  obtain rfl : ci = 13 := by omega
  exact into_V X hx (C := RX13) hown (hts _ q2017) (hts _ q2019) (hts _ qs118) (hts _ q2020) ⟨by decide, by decide⟩ hc1 hc2 (hc3 _ rfl) hg (n := 2) (Nat.succ.inj hn) (by decide +kernel) (by simpa using hst) hd
theorem cl_14189 : clOK RX13 189 2 3 yX13_isOf 14 14 := by
  intro p l e R s m args below meth c T locs cells slots X hx hts hnw hown g Ar rest hg hn hst hd hr
  obtain ⟨b, As, ci, cell, rfl, h1, h2, hc1, hc2, hc3⟩ := hr
  obtain rfl : ci = 13 := by omega
  exact into_V X hx (C := RX13) hown (hts _ q2009) (hts _ q2011) (hts _ qs116) (hts _ q2012) ⟨by decide, by decide⟩ hc1 hc2 (hc3 _ rfl) hg (n := 2) (Nat.succ.inj hn) (by decide +kernel) (by simpa using hst) hd
theorem cl_14192 : clOK RX13 192 2 2 yX13_wrong 14 14 := by
  intro p l e R s m args below meth c T locs cells slots X hx hts hnw hown g Ar rest hg hn hst hd hr
  obtain ⟨b, As, ci, cell, rfl, h1, h2, hc1, hc2, hc3⟩ := hr
  obtain rfl : ci = 13 := by omega
  exact into_V X hx (C := RX13) hown (hts _ q1996) (hts _ q1998) (hts _ qs113) (hts _ q1999) ⟨by decide, by decide⟩ hc1 hc2 (hc3 _ rfl) hg (n := 1) (Nat.succ.inj hn) (by decide +kernel) (by simpa using hst) hd
theorem cl_14195 : clOK RX13 195 0 1 yX14_element 15 15 := by
  intro p l e R s m args below meth c T locs cells slots X hx hts hnw hown g Ar rest hg hn hst hd hr
  exact into_S X hx hown (hts _ q2008) (hts _ q1509) (hts _ q265) (hts _ q1510) ⟨by decide, by decide⟩ hg hn (by decide +kernel) hst hd
theorem cl_14200 : clOK RX13 200 2 3 yX14_method 15 15 := by
  intro p l e R s m args below meth c T locs cells slots X hx hts hnw hown g Ar rest hg hn hst hd hr
  obtain ⟨b, As, ci, cell, rfl, h1, h2, hc1, hc2, hc3⟩ := hr
  obtain rfl : ci = 14 := by omega
  exact into_V X hx (C := RX14) hown (hts _ q2029) (hts _ q1845) (hts _ q1846) (hts _ q1847) ⟨by decide, by decide⟩ hc1 hc2 (hc3 _ rfl) hg (n := 2) (Nat.succ.inj hn) (by decide +kernel) (by simpa using hst) hd
theorem cl_15110 : clOK RX14 110 2 3 yX14_isClassBelow 15 15 := by
  intro p l e R s m args below meth c T locs cells slots X hx hts hnw hown g Ar rest hg hn hst hd hr
  obtain ⟨b, As, ci, cell, rfl, h1, h2, hc1, hc2, hc3⟩ := hr
  obtain rfl : ci = 14 := by omega
  exact into_V X hx (C := RX14) hown (hts _ q1481) (hts _ q1352) (hts _ q1353) (hts _ q1354) ⟨by decide, by decide⟩ hc1 hc2 (hc3 _ rfl) hg (n := 2) (Nat.succ.inj hn) (by decide +kernel) (by simpa using hst) hd
theorem cl_15114 : clOK RX14 114 2 3 yX14_isBelow 15 15 := by
  intro p l e R s m args below meth c T locs cells slots X hx hts hnw hown g Ar rest hg hn hst hd hr
  obtain ⟨b, As, ci, cell, rfl, h1, h2, hc1, hc2, hc3⟩ := hr
  obtain rfl : ci = 14 := by omega
  exact into_V X hx (C := RX14) hown (hts _ q1477) (hts _ q1478) (hts _ q1479) (hts _ q1480) ⟨by decide, by decide⟩ hc1 hc2 (hc3 _ rfl) hg (n := 2) (Nat.succ.inj hn) (by decide +kernel) (by simpa using hst) hd
theorem cl_15117 : clOK RX14 117 2 3 yX14_classJoin 15 15 := by
  intro p l e R s m args below meth c T locs cells slots X hx hts hnw hown g Ar rest hg hn hst hd hr
  obtain ⟨b, As, ci, cell, rfl, h1, h2, hc1, hc2, hc3⟩ := hr
  obtain rfl : ci = 14 := by omega
  exact into_V X hx (C := RX14) hown (hts _ q1482) (hts _ q1484) (hts _ qs43) (hts _ q1485) ⟨by decide, by decide⟩ hc1 hc2 (hc3 _ rfl) hg (n := 2) (Nat.succ.inj hn) (by decide +kernel) (by simpa using hst) hd
theorem cl_16011 : clOK RX15 11 1 1 yX16_init 17 17 := by
  intro p l e R s m args below meth c T locs cells slots X hx hts hnw hown g Ar rest hg hn hst hd hr
  obtain ⟨b, As, ci, cell, rfl, h1, h2, hc1, hc2, hc3⟩ := hr
  exact into_IN X hx hown rfl (va_Nw.use rfl (hnw _ (List.mem_of_getElem? (i := 8) rfl))) (hts _ q2072) (hts _ q2073) ⟨by decide, by decide⟩ hg (n := 0) (Nat.succ.inj hn) (by decide +kernel) (by simpa using hst) hd
theorem cl_16148 : clOK RX15 148 2 2 yX15_word 16 16 := by
  intro p l e R s m args below meth c T locs cells slots X hx hts hnw hown g Ar rest hg hn hst hd hr
  obtain ⟨b, As, ci, cell, rfl, h1, h2, hc1, hc2, hc3⟩ := hr
  obtain rfl : ci = 15 := by omega
  exact into_V X hx (C := RX15) hown (hts _ q2478) (hts _ q2480) (hts _ qs123) (hts _ q2481) ⟨by decide, by decide⟩ hc1 hc2 (hc3 _ rfl) hg (n := 1) (Nat.succ.inj hn) (by decide +kernel) (by simpa using hst) hd
theorem cl_16167 : clOK RX15 167 2 5 yX15_isSame 16 16 := by
  intro p l e R s m args below meth c T locs cells slots X hx hts hnw hown g Ar rest hg hn hst hd hr
  obtain ⟨b, As, ci, cell, rfl, h1, h2, hc1, hc2, hc3⟩ := hr
  obtain rfl : ci = 15 := by omega
  exact into_V X hx (C := RX15) hown (hts _ q2604) (hts _ q2606) (hts _ qs147) (hts _ q2607) ⟨by decide, by decide⟩ hc1 hc2 (hc3 _ rfl) hg (n := 4) (Nat.succ.inj hn) (by decide +kernel) (by simpa using hst) hd
theorem cl_16171 : clOK RX15 171 2 5 yX15_isName 16 16 := by
  intro p l e R s m args below meth c T locs cells slots X hx hts hnw hown g Ar rest hg hn hst hd hr
  obtain ⟨b, As, ci, cell, rfl, h1, h2, hc1, hc2, hc3⟩ := hr
  obtain rfl : ci = 15 := by omega
  exact into_V X hx (C := RX15) hown (hts _ q2517) (hts _ q2519) (hts _ qs130) (hts _ q2520) ⟨by decide, by decide⟩ hc1 hc2 (hc3 _ rfl) hg (n := 4) (Nat.succ.inj hn) (by decide +kernel) (by simpa using hst) hd
theorem cl_16174 : clOK RX15 174 2 2 yX15_isArray 16 16 := by
  intro p l e R s m args below meth c T locs cells slots X hx hts hnw hown g Ar rest hg hn hst hd hr
  obtain ⟨b, As, ci, cell, rfl, h1, h2, hc1, hc2, hc3⟩ := hr
  obtain rfl : ci = 15 := by omega
  exact into_V X hx (C := RX15) hown (hts _ q2537) (hts _ q2539) (hts _ qs134) (hts _ q2540) ⟨by decide, by decide⟩ hc1 hc2 (hc3 _ rfl) hg (n := 1) (Nat.succ.inj hn) (by decide +kernel) (by simpa using hst) hd
theorem cl_16178 : clOK RX15 178 2 2 yX15_point 16 16 := by
  intro p l e R s m args below meth c T locs cells slots X hx hts hnw hown g Ar rest hg hn hst hd hr
  obtain ⟨b, As, ci, cell, rfl, h1, h2, hc1, hc2, hc3⟩ := hr
  obtain rfl : ci = 15 := by omega
  exact into_V X hx (C := RX15) hown (hts _ q2583) (hts _ q2585) (hts _ qs142) (hts _ q2586) ⟨by decide, by decide⟩ hc1 hc2 (hc3 _ rfl) hg (n := 1) (Nat.succ.inj hn) (by decide +kernel) (by simpa using hst) hd
theorem cl_16182 : clOK RX15 182 2 2 yX15_number 16 16 := by
  intro p l e R s m args below meth c T locs cells slots X hx hts hnw hown g Ar rest hg hn hst hd hr
  obtain ⟨b, As, ci, cell, rfl, h1, h2, hc1, hc2, hc3⟩ := hr
  obtain rfl : ci = 15 := by omega
  exact into_V X hx (C := RX15) hown (hts _ q2550) (hts _ q2552) (hts _ qs136) (hts _ q2553) ⟨by decide, by decide⟩ hc1 hc2 (hc3 _ rfl) hg (n := 1) (Nat.succ.inj hn) (by decide +kernel) (by simpa using hst) hd
theorem cl_16199 : clOK RX15 199 2 3 yX15_is 16 16 := by
  intro p l e R s m args below meth c T locs cells slots X hx hts hnw hown g Ar rest hg hn hst hd hr
  obtain ⟨b, As, ci, cell, rfl, h1, h2, hc1, hc2, hc3⟩ := hr
  obtain rfl : ci = 15 := by omega
  exact into_V X hx (C := RX15) hown (hts _ q2503) (hts _ q2505) (hts _ qs127) (hts _ q2506) ⟨by decide, by decide⟩ hc1 hc2 (hc3 _ rfl) hg (n := 2) (Nat.succ.inj hn) (by decide +kernel) (by simpa using hst) hd
theorem cl_16203 : clOK RX15 203 2 2 yX15_takes 16 16 := by
  intro p l e R s m args below meth c T locs cells slots X hx hts hnw hown g Ar rest hg hn hst hd hr
  obtain ⟨b, As, ci, cell, rfl, h1, h2, hc1, hc2, hc3⟩ := hr
  obtain rfl : ci = 15 := by omega
  exact into_V X hx (C := RX15) hown (hts _ q2509) (hts _ q2511) (hts _ qs128) (hts _ q2512) ⟨by decide, by decide⟩ hc1 hc2 (hc3 _ rfl) hg (n := 1) (Nat.succ.inj hn) (by decide +kernel) (by simpa using hst) hd
theorem cl_16207 : clOK RX15 207 2 2 yX15_isClassName 16 16 := by
  intro p l e R s m args below meth c T locs cells slots X hx hts hnw hown g Ar rest hg hn hst hd hr
  obtain ⟨b, As, ci, cell, rfl, h1, h2, hc1, hc2, hc3⟩ := hr
  obtain rfl : ci = 15 := by omega
  exact into_V X hx (C := RX15) hown (hts _ q2513) (hts _ q2515) (hts _ qs129) (hts _ q2516) ⟨by decide, by decide⟩ hc1 hc2 (hc3 _ rfl) hg (n := 1) (Nat.succ.inj hn) (by decide +kernel) (by simpa using hst) hd
theorem cl_16216 : clOK RX15 216 2 1 yX15_isMember 16 16 := by
  intro p l e R s m args below meth c T locs cells slots X hx hts hnw hown g Ar rest hg hn hst hd hr
  obtain ⟨b, As, ci, cell, rfl, h1, h2, hc1, hc2, hc3⟩ := hr
  obtain rfl : ci = 15 := by omega
  exact into_V X hx (C := RX15) hown (hts _ q2524) (hts _ q2526) (hts _ qs131) (hts _ q2527) ⟨by decide, by decide⟩ hc1 hc2 (hc3 _ rfl) hg (n := 0) (Nat.succ.inj hn) (by decide +kernel) (by simpa using hst) hd
theorem cl_16222 : clOK RX15 222 2 2 yX15_isSmallName 16 16 := by
  intro p l e R s m args below meth c T locs cells slots X hx hts hnw hown g Ar rest hg hn hst hd hr
  obtain ⟨b, As, ci, cell, rfl, h1, h2, hc1, hc2, hc3⟩ := hr
  obtain rfl : ci = 15 := by omega
  exact into_V X hx (C := RX15) hown (hts _ q2529) (hts _ q2531) (hts _ qs132) (hts _ q2532) ⟨by decide, by decide⟩ hc1 hc2 (hc3 _ rfl) hg (n := 1) (Nat.succ.inj hn) (by decide +kernel) (by simpa using hst) hd
theorem cl_16225 : clOK RX15 225 2 2 yX15_isType 16 16 := by
  intro p l e R s m args below meth c T locs cells slots X hx hts hnw hown g Ar rest hg hn hst hd hr
  obtain ⟨b, As, ci, cell, rfl, h1, h2, hc1, hc2, hc3⟩ := hr
  obtain rfl : ci = 15 := by omega
  exact into_V X hx (C := RX15) hown (hts _ q2533) (hts _ q2535) (hts _ qs133) (hts _ q2536) ⟨by decide, by decide⟩ hc1 hc2 (hc3 _ rfl) hg (n := 1) (Nat.succ.inj hn) (by decide +kernel) (by simpa using hst) hd
theorem cl_16238 : clOK RX15 238 2 2 yX15_isNumber 16 16 := by
  intro p l e R s m args below meth c T locs cells slots X hx hts hnw hown g Ar rest hg hn hst hd hr
  obtain ⟨b, As, ci, cell, rfl, h1, h2, hc1, hc2, hc3⟩ := hr
  obtain rfl : ci = 15 := by omega
  exact into_V X hx (C := RX15) hown (hts _ q2546) (hts _ q2548) (hts _ qs135) (hts _ q2549) ⟨by decide, by decide⟩ hc1 hc2 (hc3 _ rfl) hg (n := 1) (Nat.succ.inj hn) (by decide +kernel) (by simpa using hst) hd
theorem cl_16241 : clOK RX15 241 2 1 yX15_isLine 16 16 := by
  intro p l e R s m args below meth c T locs cells slots X hx hts hnw hown g Ar rest hg hn hst hd hr
  obtain ⟨b, As, ci, cell, rfl, h1, h2, hc1, hc2, hc3⟩ := hr
  obtain rfl : ci = 15 := by omega
  exact into_V X hx (C := RX15) hown (hts _ q2558) (hts _ q2560) (hts _ qs137) (hts _ q2561) ⟨by decide, by decide⟩ hc1 hc2 (hc3 _ rfl) hg (n := 0) (Nat.succ.inj hn) (by decide +kernel) (by simpa using hst) hd
theorem cl_16248 : clOK RX15 248 2 4 yX15_among 16 16 := by
  intro p l e R s m args below meth c T locs cells slots X hx hts hnw hown g Ar rest hg hn hst hd hr
  obtain ⟨b, As, ci, cell, rfl, h1, h2, hc1, hc2, hc3⟩ := hr
  obtain rfl : ci = 15 := by omega
  exact into_V X hx (C := RX15) hown (hts _ q2573) (hts _ q2575) (hts _ qs140) (hts _ q2576) ⟨by decide, by decide⟩ hc1 hc2 (hc3 _ rfl) hg (n := 3) (Nat.succ.inj hn) (by decide +kernel) (by simpa using hst) hd
theorem cl_16252 : clOK RX15 252 2 2 yX15_isLabel 16 16 := by
  intro p l e R s m args below meth c T locs cells slots X hx hts hnw hown g Ar rest hg hn hst hd hr
  obtain ⟨b, As, ci, cell, rfl, h1, h2, hc1, hc2, hc3⟩ := hr
  obtain rfl : ci = 15 := by omega
  exact into_V X hx (C := RX15) hown (hts _ q2562) (hts _ q2564) (hts _ qs138) (hts _ q2565) ⟨by decide, by decide⟩ hc1 hc2 (hc3 _ rfl) hg (n := 1) (Nat.succ.inj hn) (by decide +kernel) (by simpa using hst) hd
theorem cl_16257 : clOK RX15 257 2 2 yX15_opOf 16 16 := by
  intro p l e R s m args below meth c T locs cells slots X hx hts hnw hown g Ar rest hg hn hst hd hr
  obtain ⟨b, As, ci, cell, rfl, h1, h2, hc1, hc2, hc3⟩ := hr
  obtain rfl : ci = 15 := by omega
  exact into_V X hx (C := RX15) hown (hts _ q2568) (hts _ q2570) (hts _ qs139) (hts _ q2571) ⟨by decide, by decide⟩ hc1 hc2 (hc3 _ rfl) hg (n := 1) (Nat.succ.inj hn) (by decide +kernel) (by simpa using hst) hd
theorem cl_16264 : clOK RX15 264 2 2 yX15_isReference 16 16 := by
  intro p l e R s m args below meth c T locs cells slots X hx hts hnw hown g Ar rest hg hn hst hd hr
  obtain ⟨b, As, ci, cell, rfl, h1, h2, hc1, hc2, hc3⟩ := hr
  obtain rfl : ci = 15 := by omega
  exact into_V X hx (C := RX15) hown (hts _ q2579) (hts _ q2581) (hts _ qs141) (hts _ q2582) ⟨by decide, by decide⟩ hc1 hc2 (hc3 _ rfl) hg (n := 1) (Nat.succ.inj hn) (by decide +kernel) (by simpa using hst) hd
theorem cl_16272 : clOK RX15 272 2 2 yX15_classCount 16 16 := by
  intro p l e R s m args below meth c T locs cells slots X hx hts hnw hown g Ar rest hg hn hst hd hr
  obtain ⟨b, As, ci, cell, rfl, h1, h2, hc1, hc2, hc3⟩ := hr
  obtain rfl : ci = 15 := by omega
  exact into_V X hx (C := RX15) hown (hts _ q2600) (hts _ q2602) (hts _ qs146) (hts _ q2603) ⟨by decide, by decide⟩ hc1 hc2 (hc3 _ rfl) hg (n := 1) (Nat.succ.inj hn) (by decide +kernel) (by simpa using hst) hd
theorem cl_16276 : clOK RX15 276 2 4 yX15_classOf 16 16 := by
  intro p l e R s m args below meth c T locs cells slots X hx hts hnw hown g Ar rest hg hn hst hd hr
  obtain ⟨b, As, ci, cell, rfl, h1, h2, hc1, hc2, hc3⟩ := hr
  obtain rfl : ci = 15 := by omega
  exact into_V X hx (C := RX15) hown (hts _ q2595) (hts _ q2597) (hts _ qs145) (hts _ q2598) ⟨by decide, by decide⟩ hc1 hc2 (hc3 _ rfl) hg (n := 3) (Nat.succ.inj hn) (by decide +kernel) (by simpa using hst) hd
theorem cl_16283 : clOK RX15 283 2 2 yX15_behind 16 16 := by
  intro p l e R s m args below meth c T locs cells slots X hx hts hnw hown g Ar rest hg hn hst hd hr
  obtain ⟨b, As, ci, cell, rfl, h1, h2, hc1, hc2, hc3⟩ := hr
  obtain rfl : ci = 15 := by omega
  exact into_V X hx (C := RX15) hown (hts _ q2612) (hts _ q2614) (hts _ qs149) (hts _ q2615) ⟨by decide, by decide⟩ hc1 hc2 (hc3 _ rfl) hg (n := 1) (Nat.succ.inj hn) (by decide +kernel) (by simpa using hst) hd
theorem cl_16286 : clOK RX15 286 2 3 yX15_classOfToken 16 16 := by
  intro p l e R s m args below meth c T locs cells slots X hx hts hnw hown g Ar rest hg hn hst hd hr
  obtain ⟨b, As, ci, cell, rfl, h1, h2, hc1, hc2, hc3⟩ := hr
  obtain rfl : ci = 15 := by omega
  exact into_V X hx (C := RX15) hown (hts _ q2591) (hts _ q2593) (hts _ qs144) (hts _ q2594) ⟨by decide, by decide⟩ hc1 hc2 (hc3 _ rfl) hg (n := 2) (Nat.succ.inj hn) (by decide +kernel) (by simpa using hst) hd
theorem cl_16290 : clOK RX15 290 2 2 yX15_wrong 16 16 := by
  intro p l e R s m args below meth c T locs cells slots X hx hts hnw hown g Ar rest hg hn hst hd hr
  obtain ⟨b, As, ci, cell, rfl, h1, h2, hc1, hc2, hc3⟩ := hr
  obtain rfl : ci = 15 := by omega
  exact into_V X hx (C := RX15) hown (hts _ q2608) (hts _ q2610) (hts _ qs148) (hts _ q2611) ⟨by decide, by decide⟩ hc1 hc2 (hc3 _ rfl) hg (n := 1) (Nat.succ.inj hn) (by decide +kernel) (by simpa using hst) hd
theorem cl_16299 : clOK RX15 299 0 3 yX15_isAtOrBelow 16 16 := by
  intro p l e R s m args below meth c T locs cells slots X hx hts hnw hown g Ar rest hg hn hst hd hr
  exact into_S X hx hown (hts _ q2628) (hts _ q2629) (hts _ q266) (hts _ q2630) ⟨by decide, by decide⟩ hg hn (by decide +kernel) hst hd
theorem cl_16309 : clOK RX15 309 2 4 yX15_field 16 16 := by
  intro p l e R s m args below meth c T locs cells slots X hx hts hnw hown g Ar rest hg hn hst hd hr
  obtain ⟨b, As, ci, cell, rfl, h1, h2, hc1, hc2, hc3⟩ := hr
  obtain rfl : ci = 15 := by omega
  exact into_V X hx (C := RX15) hown (hts _ q2620) (hts _ q2622) (hts _ qs151) (hts _ q2623) ⟨by decide, by decide⟩ hc1 hc2 (hc3 _ rfl) hg (n := 3) (Nat.succ.inj hn) (by decide +kernel) (by simpa using hst) hd
theorem cl_16311 : clOK RX15 311 2 4 yX15_body 16 16 := by
  intro p l e R s m args below meth c T locs cells slots X hx hts hnw hown g Ar rest hg hn hst hd hr
  obtain ⟨b, As, ci, cell, rfl, h1, h2, hc1, hc2, hc3⟩ := hr
  obtain rfl : ci = 15 := by omega
  exact into_V X hx (C := RX15) hown (hts _ q2635) (hts _ q2637) (hts _ qs154) (hts _ q2638) ⟨by decide, by decide⟩ hc1 hc2 (hc3 _ rfl) hg (n := 3) (Nat.succ.inj hn) (by decide +kernel) (by simpa using hst) hd
theorem cl_16314 : clOK RX15 314 2 2 yX15_behindMember 16 16 := by
  intro p l e R s m args below meth c T locs cells slots X hx hts hnw hown g Ar rest hg hn hst hd hr
  obtain ⟨b, As, ci, cell, rfl, h1, h2, hc1, hc2, hc3⟩ := hr
  obtain rfl : ci = 15 := by omega
  exact into_V X hx (C := RX15) hown (hts _ q2652) (hts _ q2654) (hts _ qs158) (hts _ q2655) ⟨by decide, by decide⟩ hc1 hc2 (hc3 _ rfl) hg (n := 1) (Nat.succ.inj hn) (by decide +kernel) (by simpa using hst) hd
theorem cl_16317 : clOK RX15 317 2 5 yX15_fieldOf 16 16 := by
  intro p l e R s m args below meth c T locs cells slots X hx hts hnw hown g Ar rest hg hn hst hd hr
  obtain ⟨b, As, ci, cell, rfl, h1, h2, hc1, hc2, hc3⟩ := hr
  obtain rfl : ci = 15 := by omega
  exact into_V X hx (C := RX15) hown (hts _ q2624) (hts _ q2626) (hts _ qs152) (hts _ q2627) ⟨by decide, by decide⟩ hc1 hc2 (hc3 _ rfl) hg (n := 4) (Nat.succ.inj hn) (by decide +kernel) (by simpa using hst) hd
theorem cl_16321 : clOK RX15 321 2 3 yX15_typeOf 16 16 := by
  intro p l e R s m args below meth c T locs cells slots X hx hts hnw hown g Ar rest hg hn hst hd hr
  obtain ⟨b, As, ci, cell, rfl, h1, h2, hc1, hc2, hc3⟩ := hr
  obtain rfl : ci = 15 := by omega
  exact into_V X hx (C := RX15) hown (hts _ q2631) (hts _ q2633) (hts _ qs153) (hts _ q2634) ⟨by decide, by decide⟩ hc1 hc2 (hc3 _ rfl) hg (n := 2) (Nat.succ.inj hn) (by decide +kernel) (by simpa using hst) hd
theorem cl_16327 : clOK RX15 327 2 3 yX15_isSameToken 16 16 := by
  intro p l e R s m args below meth c T locs cells slots X hx hts hnw hown g Ar rest hg hn hst hd hr
  obtain ⟨b, As, ci, cell, rfl, h1, h2, hc1, hc2, hc3⟩ := hr
  obtain rfl : ci = 15 := by omega
  exact into_V X hx (C := RX15) hown (hts _ q2647) (hts _ q2649) (hts _ qs157) (hts _ q2650) ⟨by decide, by decide⟩ hc1 hc2 (hc3 _ rfl) hg (n := 2) (Nat.succ.inj hn) (by decide +kernel) (by simpa using hst) hd
theorem cl_16331 : clOK RX15 331 2 5 yX15_bodyOf 16 16 := by
  intro p l e R s m args below meth c T locs cells slots X hx hts hnw hown g Ar rest hg hn hst hd hr
  obtain ⟨b, As, ci, cell, rfl, h1, h2, hc1, hc2, hc3⟩ := hr
  obtain rfl : ci = 15 := by omega
  exact into_V X hx (C := RX15) hown (hts _ q2639) (hts _ q2641) (hts _ qs155) (hts _ q2642) ⟨by decide, by decide⟩ hc1 hc2 (hc3 _ rfl) hg (n := 4) (Nat.succ.inj hn) (by decide +kernel) (by simpa using hst) hd
theorem cl_16337 : clOK RX15 337 2 3 yX15_isSameRow 16 16 := by
  intro p l e R s m args below meth c T locs cells slots X hx hts hnw hown g Ar rest hg hn hst hd hr
  obtain ⟨b, As, ci, cell, rfl, h1, h2, hc1, hc2, hc3⟩ := hr
  obtain rfl : ci = 15 := by omega
  exact into_V X hx (C := RX15) hown (hts _ q2643) (hts _ q2645) (hts _ qs156) (hts _ q2646) ⟨by decide, by decide⟩ hc1 hc2 (hc3 _ rfl) hg (n := 2) (Nat.succ.inj hn) (by decide +kernel) (by simpa using hst) hd
theorem cl_16365 : clOK RX15 365 2 3 yX15_linesOf 16 16 := by
  intro p l e R s m args below meth c T locs cells slots X hx hts hnw hown g Ar rest hg hn hst hd hr
  obtain ⟨b, As, ci, cell, rfl, h1, h2, hc1, hc2, hc3⟩ := hr
  obtain rfl : ci = 15 := by omega
  exact into_V X hx (C := RX15) hown (hts _ q2660) (hts _ q2662) (hts _ qs160) (hts _ q2663) ⟨by decide, by decide⟩ hc1 hc2 (hc3 _ rfl) hg (n := 2) (Nat.succ.inj hn) (by decide +kernel) (by simpa using hst) hd
theorem cl_16375 : clOK RX15 375 2 2 yX15_lineLength 16 16 := by
  intro p l e R s m args below meth c T locs cells slots X hx hts hnw hown g Ar rest hg hn hst hd hr
  obtain ⟨b, As, ci, cell, rfl, h1, h2, hc1, hc2, hc3⟩ := hr
  obtain rfl : ci = 15 := by omega
  exact into_V X hx (C := RX15) hown (hts _ q2664) (hts _ q2666) (hts _ qs161) (hts _ q2667) ⟨by decide, by decide⟩ hc1 hc2 (hc3 _ rfl) hg (n := 1) (Nat.succ.inj hn) (by decide +kernel) (by simpa using hst) hd
theorem cl_16381 : clOK RX15 381 2 2 yX15_label 16 16 := by
  intro p l e R s m args below meth c T locs cells slots X hx hts hnw hown g Ar rest hg hn hst hd hr
  obtain ⟨b, As, ci, cell, rfl, h1, h2, hc1, hc2, hc3⟩ := hr
  obtain rfl : ci = 15 := by omega
  exact into_V X hx (C := RX15) hown (hts _ q2668) (hts _ q2670) (hts _ qs162) (hts _ q2671) ⟨by decide, by decide⟩ hc1 hc2 (hc3 _ rfl) hg (n := 1) (Nat.succ.inj hn) (by decide +kernel) (by simpa using hst) hd
theorem cl_16384 : clOK RX15 384 2 5 yX15_catchLine 16 16 := by
  intro p l e R s m args below meth c T locs cells slots X hx hts hnw hown g Ar rest hg hn hst hd hr
  obtain ⟨b, As, ci, cell, rfl, h1, h2, hc1, hc2, hc3⟩ := hr
  obtain rfl : ci = 15 := by omega
  exact into_V X hx (C := RX15) hown (hts _ q2672) (hts _ q2674) (hts _ qs163) (hts _ q2675) ⟨by decide, by decide⟩ hc1 hc2 (hc3 _ rfl) hg (n := 4) (Nat.succ.inj hn) (by decide +kernel) (by simpa using hst) hd
theorem cl_16388 : clOK RX15 388 2 5 yX15_code 16 16 := by
  intro p l e R s m args below meth c T locs cells slots X hx hts hnw hown g Ar rest hg hn hst hd hr
  obtain ⟨b, As, ci, cell, rfl, h1, h2, hc1, hc2, hc3⟩ := hr
  obtain rfl : ci = 15 := by omega
  exact into_V X hx (C := RX15) hown (hts _ q2680) (hts _ q2682) (hts _ qs165) (hts _ q2683) ⟨by decide, by decide⟩ hc1 hc2 (hc3 _ rfl) hg (n := 4) (Nat.succ.inj hn) (by decide +kernel) (by simpa using hst) hd
theorem cl_16394 : clOK RX15 394 2 2 yX15_labelAt 16 16 := by
  intro p l e R s m args below meth c T locs cells slots X hx hts hnw hown g Ar rest hg hn hst hd hr
  obtain ⟨b, As, ci, cell, rfl, h1, h2, hc1, hc2, hc3⟩ := hr
  obtain rfl : ci = 15 := by omega
  exact into_V X hx (C := RX15) hown (hts _ q2676) (hts _ q2678) (hts _ qs164) (hts _ q2679) ⟨by decide, by decide⟩ hc1 hc2 (hc3 _ rfl) hg (n := 1) (Nat.succ.inj hn) (by decide +kernel) (by simpa using hst) hd
theorem cl_16420 : clOK RX15 420 2 3 yX15_thresholds 16 16 := by
  intro p l e R s m args below meth c T locs cells slots X hx hts hnw hown g Ar rest hg hn hst hd hr
  obtain ⟨b, As, ci, cell, rfl, h1, h2, hc1, hc2, hc3⟩ := hr
  obtain rfl : ci = 15 := by omega
  exact into_V X hx (C := RX15) hown (hts _ q2684) (hts _ q2686) (hts _ qs166) (hts _ q2687) ⟨by decide, by decide⟩ hc1 hc2 (hc3 _ rfl) hg (n := 2) (Nat.succ.inj hn) (by decide +kernel) (by simpa using hst) hd
theorem cl_16423 : clOK RX15 423 2 5 yX15_localStep 16 16 := by
  intro p l e R s m args below meth c T locs cells slots X hx hts hnw hown g Ar rest hg hn hst hd hr
  obtain ⟨b, As, ci, cell, rfl, h1, h2, hc1, hc2, hc3⟩ := hr
  obtain rfl : ci = 15 := by omega
  exact into_V X hx (C := RX15) hown (hts _ q2692) (hts _ q2694) (hts _ qs168) (hts _ q2695) ⟨by decide, by decide⟩ hc1 hc2 (hc3 _ rfl) hg (n := 4) (Nat.succ.inj hn) (by decide +kernel) (by simpa using hst) hd
theorem cl_16426 : clOK RX15 426 2 5 yX15_madeStep 16 16 := by
  intro p l e R s m args below meth c T locs cells slots X hx hts hnw hown g Ar rest hg hn hst hd hr
  obtain ⟨b, As, ci, cell, rfl, h1, h2, hc1, hc2, hc3⟩ := hr
  obtain rfl : ci = 15 := by omega
  exact into_V X hx (C := RX15) hown (hts _ q2696) (hts _ q2698) (hts _ qs169) (hts _ q2699) ⟨by decide, by decide⟩ hc1 hc2 (hc3 _ rfl) hg (n := 4) (Nat.succ.inj hn) (by decide +kernel) (by simpa using hst) hd
theorem cl_16429 : clOK RX15 429 2 5 yX15_reference 16 16 := by
  intro p l e R s m args below meth c T locs cells slots X hx hts hnw hown g Ar rest hg hn hst hd hr
  obtain ⟨b, As, ci, cell, rfl, h1, h2, hc1, hc2, hc3⟩ := hr
  obtain rfl : ci = 15 := by omega
  exact into_V X hx (C := RX15) hown (hts _ q2700) (hts _ q2702) (hts _ qs170) (hts _ q2703) ⟨by decide, by decide⟩ hc1 hc2 (hc3 _ rfl) hg (n := 4) (Nat.succ.inj hn) (by decide +kernel) (by simpa using hst) hd
theorem cl_16435 : clOK RX15 435 2 3 yX15_threshold 16 16 := by
  intro p l e R s m args below meth c T locs cells slots X hx hts hnw hown g Ar rest hg hn hst hd hr
  obtain ⟨b, As, ci, cell, rfl, h1, h2, hc1, hc2, hc3⟩ := hr
  obtain rfl : ci = 15 := by omega
  exact into_V X hx (C := RX15) hown (hts _ q2688) (hts _ q2690) (hts _ qs167) (hts _ q2691) ⟨by decide, by decide⟩ hc1 hc2 (hc3 _ rfl) hg (n := 2) (Nat.succ.inj hn) (by decide +kernel) (by simpa using hst) hd
theorem cl_16459 : clOK RX15 459 2 3 yX15_goodHeights 16 16 := by
  intro p l e R s m args below meth c T locs cells slots X hx hts hnw hown g Ar rest hg hn hst hd hr
  obtain ⟨b, As, ci, cell, rfl, h1, h2, hc1, hc2, hc3⟩ := hr
  obtain rfl : ci = 15 := by omega
  exact into_V X hx (C := RX15) hown (hts _ q2716) (hts _ q2718) (hts _ qs173) (hts _ q2719) ⟨by decide, by decide⟩ hc1 hc2 (hc3 _ rfl) hg (n := 2) (Nat.succ.inj hn) (by decide +kernel) (by simpa using hst) hd
theorem cl_16462 : clOK RX15 462 0 1 yX15_hasNext 16 16 := by
  intro p l e R s m args below meth c T locs cells slots X hx hts hnw hown g Ar rest hg hn hst hd hr
  exact into_S X hx hown (hts _ q2726) (hts _ q2727) (hts _ q266) (hts _ q2728) ⟨by decide, by decide⟩ hg hn (by decide +kernel) hst hd
theorem cl_16465 : clOK RX15 465 2 3 yX15_added 16 16 := by
  intro p l e R s m args below meth c T locs cells slots X hx hts hnw hown g Ar rest hg hn hst hd hr
  obtain ⟨b, As, ci, cell, rfl, h1, h2, hc1, hc2, hc3⟩ := hr
  obtain rfl : ci = 15 := by omega
  exact into_V X hx (C := RX15) hown (hts _ q2729) (hts _ q2731) (hts _ qs174) (hts _ q2732) ⟨by decide, by decide⟩ hc1 hc2 (hc3 _ rfl) hg (n := 2) (Nat.succ.inj hn) (by decide +kernel) (by simpa using hst) hd
theorem cl_16468 : clOK RX15 468 0 1 yX15_hasLabel 16 16 := by
  intro p l e R s m args below meth c T locs cells slots X hx hts hnw hown g Ar rest hg hn hst hd hr
  exact into_S X hx hown (hts _ q2733) (hts _ q2734) (hts _ q266) (hts _ q2735) ⟨by decide, by decide⟩ hg hn (by decide +kernel) hst hd
theorem cl_16471 : clOK RX15 471 0 3 yX15_covers 16 16 := by
  intro p l e R s m args below meth c T locs cells slots X hx hts hnw hown g Ar rest hg hn hst hd hr
  exact into_S X hx hown (hts _ q2736) (hts _ q2737) (hts _ q266) (hts _ q2738) ⟨by decide, by decide⟩ hg hn (by decide +kernel) hst hd
theorem cl_16477 : clOK RX15 477 0 2 yX15_howMany 16 16 := by
  intro p l e R s m args below meth c T locs cells slots X hx hts hnw hown g Ar rest hg hn hst hd hr
  exact into_S X hx hown (hts _ q2720) (hts _ q2721) (hts _ q266) (hts _ q2722) ⟨by decide, by decide⟩ hg hn (by decide +kernel) hst hd
theorem cl_16480 : clOK RX15 480 0 2 yX15_leaves 16 16 := by
  intro p l e R s m args below meth c T locs cells slots X hx hts hnw hown g Ar rest hg hn hst hd hr
  exact into_S X hx hown (hts _ q2723) (hts _ q2724) (hts _ q266) (hts _ q2725) ⟨by decide, by decide⟩ hg hn (by decide +kernel) hst hd
theorem cl_16483 : clOK RX15 483 0 1 yX15_isClass 16 16 := by
  intro p l e R s m args below meth c T locs cells slots X hx hts hnw hown g Ar rest hg hn hst hd hr
  exact into_S X hx hown (hts _ q2761) (hts _ q2762) (hts _ q266) (hts _ q2763) ⟨by decide, by decide⟩ hg hn (by decide +kernel) hst hd
theorem cl_16486 : clOK RX15 486 0 3 yX15_isBelow 16 16 := by
  intro p l e R s m args below meth c T locs cells slots X hx hts hnw hown g Ar rest hg hn hst hd hr
  exact into_S X hx hown (hts _ q2758) (hts _ q2759) (hts _ q266) (hts _ q2760) ⟨by decide, by decide⟩ hg hn (by decide +kernel) hst hd
theorem cl_16489 : clOK RX15 489 2 3 yX15_typesOn 16 16 := by
  intro p l e R s m args below meth c T locs cells slots X hx hts hnw hown g Ar rest hg hn hst hd hr
  obtain ⟨b, As, ci, cell, rfl, h1, h2, hc1, hc2, hc3⟩ := hr
  obtain rfl : ci = 15 := by omega
  exact into_V X hx (C := RX15) hown (hts _ q2743) (hts _ q2745) (hts _ qs176) (hts _ q2746) ⟨by decide, by decide⟩ hc1 hc2 (hc3 _ rfl) hg (n := 2) (Nat.succ.inj hn) (by decide +kernel) (by simpa using hst) hd
theorem cl_16492 : clOK RX15 492 2 3 yX15_fits 16 16 := by
  intro p l e R s m args below meth c T locs cells slots X hx hts hnw hown g Ar rest hg hn hst hd hr
  obtain ⟨b, As, ci, cell, rfl, h1, h2, hc1, hc2, hc3⟩ := hr
  obtain rfl : ci = 15 := by omega
  exact into_V X hx (C := RX15) hown (hts _ q2775) (hts _ q2777) (hts _ qs181) (hts _ q2778) ⟨by decide, by decide⟩ hc1 hc2 (hc3 _ rfl) hg (n := 2) (Nat.succ.inj hn) (by decide +kernel) (by simpa using hst) hd
theorem cl_16498 : clOK RX15 498 2 3 yX15_typesAt 16 16 := by
  intro p l e R s m args below meth c T locs cells slots X hx hts hnw hown g Ar rest hg hn hst hd hr
  obtain ⟨b, As, ci, cell, rfl, h1, h2, hc1, hc2, hc3⟩ := hr
  obtain rfl : ci = 15 := by omega
  exact into_V X hx (C := RX15) hown (hts _ q2747) (hts _ q2749) (hts _ qs177) (hts _ q2750) ⟨by decide, by decide⟩ hc1 hc2 (hc3 _ rfl) hg (n := 2) (Nat.succ.inj hn) (by decide +kernel) (by simpa using hst) hd
theorem cl_16502 : clOK RX15 502 2 3 yX15_typesTo 16 16 := by
  intro p l e R s m args below meth c T locs cells slots X hx hts hnw hown g Ar rest hg hn hst hd hr
  obtain ⟨b, As, ci, cell, rfl, h1, h2, hc1, hc2, hc3⟩ := hr
  obtain rfl : ci = 15 := by omega
  exact into_V X hx (C := RX15) hown (hts _ q2751) (hts _ q2753) (hts _ qs178) (hts _ q2754) ⟨by decide, by decide⟩ hc1 hc2 (hc3 _ rfl) hg (n := 2) (Nat.succ.inj hn) (by decide +kernel) (by simpa using hst) hd
theorem cl_16505 : clOK RX15 505 2 3 yX15_typesBehind 16 16 := by
  intro p l e R s m args below meth c T locs cells slots X hx hts hnw hown g Ar rest hg hn hst hd hr
  obtain ⟨b, As, ci, cell, rfl, h1, h2, hc1, hc2, hc3⟩ := hr
  obtain rfl : ci = 15 := by omega
  exact into_V X hx (C := RX15) hown (hts _ q2764) (hts _ q2766) (hts _ qs179) (hts _ q2767) ⟨by decide, by decide⟩ hc1 hc2 (hc3 _ rfl) hg (n := 2) (Nat.succ.inj hn) (by decide +kernel) (by simpa using hst) hd
theorem cl_16508 : clOK RX15 508 0 3 yX15_joined 16 16 := by
  intro p l e R s m args below meth c T locs cells slots X hx hts hnw hown g Ar rest hg hn hst hd hr
  exact into_S X hx hown (hts _ q2755) (hts _ q2756) (hts _ q266) (hts _ q2757) ⟨by decide, by decide⟩ hg hn (by decide +kernel) hst hd
theorem cl_16511 : clOK RX15 511 2 2 yX15_leave 16 16 := by
  intro p l e R s m args below meth c T locs cells slots X hx hts hnw hown g Ar rest hg hn hst hd hr
  obtain ⟨b, As, ci, cell, rfl, h1, h2, hc1, hc2, hc3⟩ := hr
  obtain rfl : ci = 15 := by omega
  exact into_V X hx (C := RX15) hown (hts _ q2768) (hts _ q2770) (hts _ qs180) (hts _ q2771) ⟨by decide, by decide⟩ hc1 hc2 (hc3 _ rfl) hg (n := 1) (Nat.succ.inj hn) (by decide +kernel) (by simpa using hst) hd
theorem cl_16514 : clOK RX15 514 0 1 yX15_elementOf 16 16 := by
  intro p l e R s m args below meth c T locs cells slots X hx hts hnw hown g Ar rest hg hn hst hd hr
  exact into_S X hx hown (hts _ q2772) (hts _ q2773) (hts _ q266) (hts _ q2774) ⟨by decide, by decide⟩ hg hn (by decide +kernel) hst hd
theorem cl_16517 : clOK RX15 517 0 1 yX15_isReferenceType 16 16 := by
  intro p l e R s m args below meth c T locs cells slots X hx hts hnw hown g Ar rest hg hn hst hd hr
  exact into_S X hx hown (hts _ q2779) (hts _ q2780) (hts _ q266) (hts _ q2781) ⟨by decide, by decide⟩ hg hn (by decide +kernel) hst hd
theorem cl_16520 : clOK RX15 520 0 1 yX15_isArrayType 16 16 := by
  intro p l e R s m args below meth c T locs cells slots X hx hts hnw hown g Ar rest hg hn hst hd hr
  exact into_S X hx hown (hts _ q2782) (hts _ q2783) (hts _ q266) (hts _ q2784) ⟨by decide, by decide⟩ hg hn (by decide +kernel) hst hd
theorem cl_16523 : clOK RX15 523 0 3 yX15_isElement 16 16 := by
  intro p l e R s m args below meth c T locs cells slots X hx hts hnw hown g Ar rest hg hn hst hd hr
  exact into_S X hx hown (hts _ q2785) (hts _ q2786) (hts _ q266) (hts _ q2787) ⟨by decide, by decide⟩ hg hn (by decide +kernel) hst hd
theorem cl_16526 : clOK RX15 526 2 4 yX15_areArguments 16 16 := by
  intro p l e R s m args below meth c T locs cells slots X hx hts hnw hown g Ar rest hg hn hst hd hr
  obtain ⟨b, As, ci, cell, rfl, h1, h2, hc1, hc2, hc3⟩ := hr
  obtain rfl : ci = 15 := by omega
  exact into_V X hx (C := RX15) hown (hts _ q2788) (hts _ q2790) (hts _ qs182) (hts _ q2791) ⟨by decide, by decide⟩ hc1 hc2 (hc3 _ rfl) hg (n := 3) (Nat.succ.inj hn) (by decide +kernel) (by simpa using hst) hd
theorem cl_16542 : clOK RX15 542 2 4 yX15_joinSlot 16 16 := by
  intro p l e R s m args below meth c T locs cells slots X hx hts hnw hown g Ar rest hg hn hst hd hr
  obtain ⟨b, As, ci, cell, rfl, h1, h2, hc1, hc2, hc3⟩ := hr
  obtain rfl : ci = 15 := by omega
  exact into_V X hx (C := RX15) hown (hts _ q2808) (hts _ q2810) (hts _ qs187) (hts _ q2811) ⟨by decide, by decide⟩ hc1 hc2 (hc3 _ rfl) hg (n := 3) (Nat.succ.inj hn) (by decide +kernel) (by simpa using hst) hd
theorem cl_16551 : clOK RX15 551 0 2 yJ5_min 20 20 := by
  intro p l e R s m args below meth c T locs cells slots X hx hts hnw hown g Ar rest hg hn hst hd hr
  exact into_S X hx hown (hts _ q2813) (hts _ q1120) (hts _ q269) (hts _ q1121) ⟨by decide, by decide⟩ hg hn (by decide +kernel) hst hd
theorem cl_16557 : clOK RX15 557 0 2 yJ5_max 20 20 := by
  intro p l e R s m args below meth c T locs cells slots X hx hts hnw hown g Ar rest hg hn hst hd hr
  exact into_S X hx hown (hts _ q2814) (hts _ q1610) (hts _ q269) (hts _ q1611) ⟨by decide, by decide⟩ hg hn (by decide +kernel) hst hd
theorem cl_16560 : clOK RX15 560 2 2 yX15_clear 16 16 := by
  intro p l e R s m args below meth c T locs cells slots X hx hts hnw hown g Ar rest hg hn hst hd hr
  obtain ⟨b, As, ci, cell, rfl, h1, h2, hc1, hc2, hc3⟩ := hr
  obtain rfl : ci = 15 := by omega
  exact into_V X hx (C := RX15) hown (hts _ q2800) (hts _ q2802) (hts _ qs185) (hts _ q2803) ⟨by decide, by decide⟩ hc1 hc2 (hc3 _ rfl) hg (n := 1) (Nat.succ.inj hn) (by decide +kernel) (by simpa using hst) hd
theorem cl_16563 : clOK RX15 563 0 2 yX15_notAbove 16 16 := by
  intro p l e R s m args below meth c T locs cells slots X hx hts hnw hown g Ar rest hg hn hst hd hr
  exact into_S X hx hown (hts _ q2842) (hts _ q2843) (hts _ q266) (hts _ q2844) ⟨by decide, by decide⟩ hg hn (by decide +kernel) hst hd
theorem cl_16568 : clOK RX15 568 0 2 yX15_notBelow 16 16 := by
  intro p l e R s m args below meth c T locs cells slots X hx hts hnw hown g Ar rest hg hn hst hd hr
  exact into_S X hx hown (hts _ q2839) (hts _ q2840) (hts _ q266) (hts _ q2841) ⟨by decide, by decide⟩ hg hn (by decide +kernel) hst hd
theorem cl_16572 : clOK RX15 572 2 5 yX15_range 16 16 := by
  intro p l e R s m args below meth c T locs cells slots X hx hts hnw hown g Ar rest hg hn hst hd hr
  obtain ⟨b, As, ci, cell, rfl, h1, h2, hc1, hc2, hc3⟩ := hr
  obtain rfl : ci = 15 := by omega
  exact into_V X hx (C := RX15) hown (hts _ q2876) (hts _ q2878) (hts _ qs200) (hts _ q2879) ⟨by decide, by decide⟩ hc1 hc2 (hc3 _ rfl) hg (n := 4) (Nat.succ.inj hn) (by decide +kernel) (by simpa using hst) hd
theorem cl_16591 : clOK RX15 591 2 5 yX15_joinRange 16 16 := by
  intro p l e R s m args below meth c T locs cells slots X hx hts hnw hown g Ar rest hg hn hst hd hr
  obtain ⟨b, As, ci, cell, rfl, h1, h2, hc1, hc2, hc3⟩ := hr
  obtain rfl : ci = 15 := by omega
  exact into_V X hx (C := RX15) hown (hts _ q2902) (hts _ q2904) (hts _ qs206) (hts _ q2905) ⟨by decide, by decide⟩ hc1 hc2 (hc3 _ rfl) hg (n := 4) (Nat.succ.inj hn) (by decide +kernel) (by simpa using hst) hd
theorem cl_16595 : clOK RX15 595 2 4 yX15_joinSites 16 16 := by
  intro p l e R s m args below meth c T locs cells slots X hx hts hnw hown g Ar rest hg hn hst hd hr
  obtain ⟨b, As, ci, cell, rfl, h1, h2, hc1, hc2, hc3⟩ := hr
  obtain rfl : ci = 15 := by omega
  exact into_V X hx (C := RX15) hown (hts _ q2906) (hts _ q2908) (hts _ qs207) (hts _ q2909) ⟨by decide, by decide⟩ hc1 hc2 (hc3 _ rfl) hg (n := 3) (Nat.succ.inj hn) (by decide +kernel) (by simpa using hst) hd
theorem cl_16616 : clOK RX15 616 2 3 yX15_begin 16 16 := by
  intro p l e R s m args below meth c T locs cells slots X hx hts hnw hown g Ar rest hg hn hst hd hr
  obtain ⟨b, As, ci, cell, rfl, h1, h2, hc1, hc2, hc3⟩ := hr
  obtain rfl : ci = 15 := by omega
  exact into_V X hx (C := RX15) hown (hts _ q2796) (hts _ q2798) (hts _ qs184) (hts _ q2799) ⟨by decide, by decide⟩ hc1 hc2 (hc3 _ rfl) hg (n := 2) (Nat.succ.inj hn) (by decide +kernel) (by simpa using hst) hd
theorem cl_16619 : clOK RX15 619 2 3 yX15_look 16 16 := by
  intro p l e R s m args below meth c T locs cells slots X hx hts hnw hown g Ar rest hg hn hst hd hr
  obtain ⟨b, As, ci, cell, rfl, h1, h2, hc1, hc2, hc3⟩ := hr
  obtain rfl : ci = 15 := by omega
  exact into_V X hx (C := RX15) hown (hts _ q2815) (hts _ q2817) (hts _ qs188) (hts _ q2818) ⟨by decide, by decide⟩ hc1 hc2 (hc3 _ rfl) hg (n := 2) (Nat.succ.inj hn) (by decide +kernel) (by simpa using hst) hd
theorem cl_16622 : clOK RX15 622 2 3 yX15_bring 16 16 := by
  intro p l e R s m args below meth c T locs cells slots X hx hts hnw hown g Ar rest hg hn hst hd hr
  obtain ⟨b, As, ci, cell, rfl, h1, h2, hc1, hc2, hc3⟩ := hr
  obtain rfl : ci = 15 := by omega
  exact into_V X hx (C := RX15) hown (hts _ q2804) (hts _ q2806) (hts _ qs186) (hts _ q2807) ⟨by decide, by decide⟩ hc1 hc2 (hc3 _ rfl) hg (n := 2) (Nat.succ.inj hn) (by decide +kernel) (by simpa using hst) hd
theorem cl_16635 : clOK RX15 635 2 3 yX15_fetch 16 16 := by
  intro p l e R s m args below meth c T locs cells slots X hx hts hnw hown g Ar rest hg hn hst hd hr
  obtain ⟨b, As, ci, cell, rfl, h1, h2, hc1, hc2, hc3⟩ := hr
  obtain rfl : ci = 15 := by omega
  exact into_V X hx (C := RX15) hown (hts _ q2819) (hts _ q2821) (hts _ qs189) (hts _ q2822) ⟨by decide, by decide⟩ hc1 hc2 (hc3 _ rfl) hg (n := 2) (Nat.succ.inj hn) (by decide +kernel) (by simpa using hst) hd
theorem cl_16638 : clOK RX15 638 2 3 yX15_way 16 16 := by
  intro p l e R s m args below meth c T locs cells slots X hx hts hnw hown g Ar rest hg hn hst hd hr
  obtain ⟨b, As, ci, cell, rfl, h1, h2, hc1, hc2, hc3⟩ := hr
  obtain rfl : ci = 15 := by omega
  exact into_V X hx (C := RX15) hown (hts _ q2823) (hts _ q2825) (hts _ qs190) (hts _ q2826) ⟨by decide, by decide⟩ hc1 hc2 (hc3 _ rfl) hg (n := 2) (Nat.succ.inj hn) (by decide +kernel) (by simpa using hst) hd
theorem cl_16641 : clOK RX15 641 2 3 yX15_goOn 16 16 := by
  intro p l e R s m args below meth c T locs cells slots X hx hts hnw hown g Ar rest hg hn hst hd hr
  obtain ⟨b, As, ci, cell, rfl, h1, h2, hc1, hc2, hc3⟩ := hr
  obtain rfl : ci = 15 := by omega
  exact into_V X hx (C := RX15) hown (hts _ q2861) (hts _ q2863) (hts _ qs197) (hts _ q2864) ⟨by decide, by decide⟩ hc1 hc2 (hc3 _ rfl) hg (n := 2) (Nat.succ.inj hn) (by decide +kernel) (by simpa using hst) hd
theorem cl_16644 : clOK RX15 644 0 1 yX15_contrary 16 16 := by
  intro p l e R s m args below meth c T locs cells slots X hx hts hnw hown g Ar rest hg hn hst hd hr
  exact into_S X hx hown (hts _ q2865) (hts _ q2866) (hts _ q266) (hts _ q2867) ⟨by decide, by decide⟩ hg hn (by decide +kernel) hst hd
theorem cl_16647 : clOK RX15 647 2 3 yX15_goesBehind 16 16 := by
  intro p l e R s m args below meth c T locs cells slots X hx hts hnw hown g Ar rest hg hn hst hd hr
  obtain ⟨b, As, ci, cell, rfl, h1, h2, hc1, hc2, hc3⟩ := hr
  obtain rfl : ci = 15 := by omega
  exact into_V X hx (C := RX15) hown (hts _ q2868) (hts _ q2870) (hts _ qs198) (hts _ q2871) ⟨by decide, by decide⟩ hc1 hc2 (hc3 _ rfl) hg (n := 2) (Nat.succ.inj hn) (by decide +kernel) (by simpa using hst) hd
theorem cl_16650 : clOK RX15 650 0 2 yX15_sitesBelow 16 16 := by
  intro p l e R s m args below meth c T locs cells slots X hx hts hnw hown g Ar rest hg hn hst hd hr
  exact into_S X hx hown (hts _ q2939) (hts _ q2940) (hts _ q266) (hts _ q2941) ⟨by decide, by decide⟩ hg hn (by decide +kernel) hst hd
theorem cl_16654 : clOK RX15 654 2 2 yX15_leaveSites 16 16 := by
  intro p l e R s m args below meth c T locs cells slots X hx hts hnw hown g Ar rest hg hn hst hd hr
  obtain ⟨b, As, ci, cell, rfl, h1, h2, hc1, hc2, hc3⟩ := hr
  obtain rfl : ci = 15 := by omega
  exact into_V X hx (C := RX15) hown (hts _ q2882) (hts _ q2884) (hts _ qs201) (hts _ q2885) ⟨by decide, by decide⟩ hc1 hc2 (hc3 _ rfl) hg (n := 1) (Nat.succ.inj hn) (by decide +kernel) (by simpa using hst) hd
theorem cl_16660 : clOK RX15 660 2 3 yX15_keeps 16 16 := by
  intro p l e R s m args below meth c T locs cells slots X hx hts hnw hown g Ar rest hg hn hst hd hr
  obtain ⟨b, As, ci, cell, rfl, h1, h2, hc1, hc2, hc3⟩ := hr
  obtain rfl : ci = 15 := by omega
  exact into_V X hx (C := RX15) hown (hts _ q2829) (hts _ q2831) (hts _ qs191) (hts _ q2832) ⟨by decide, by decide⟩ hc1 hc2 (hc3 _ rfl) hg (n := 2) (Nat.succ.inj hn) (by decide +kernel) (by simpa using hst) hd
theorem cl_16664 : clOK RX15 664 2 5 yX15_ordered 16 16 := by
  intro p l e R s m args below meth c T locs cells slots X hx hts hnw hown g Ar rest hg hn hst hd hr
  obtain ⟨b, As, ci, cell, rfl, h1, h2, hc1, hc2, hc3⟩ := hr
  obtain rfl : ci = 15 := by omega
  exact into_V X hx (C := RX15) hown (hts _ q2833) (hts _ q2835) (hts _ qs192) (hts _ q2836) ⟨by decide, by decide⟩ hc1 hc2 (hc3 _ rfl) hg (n := 4) (Nat.succ.inj hn) (by decide +kernel) (by simpa using hst) hd
theorem cl_16667 : clOK RX15 667 2 3 yX15_alike 16 16 := by
  intro p l e R s m args below meth c T locs cells slots X hx hts hnw hown g Ar rest hg hn hst hd hr
  obtain ⟨b, As, ci, cell, rfl, h1, h2, hc1, hc2, hc3⟩ := hr
  obtain rfl : ci = 15 := by omega
  exact into_V X hx (C := RX15) hown (hts _ q2845) (hts _ q2847) (hts _ qs193) (hts _ q2848) ⟨by decide, by decide⟩ hc1 hc2 (hc3 _ rfl) hg (n := 2) (Nat.succ.inj hn) (by decide +kernel) (by simpa using hst) hd
theorem cl_16670 : clOK RX15 670 2 4 yX15_apart 16 16 := by
  intro p l e R s m args below meth c T locs cells slots X hx hts hnw hown g Ar rest hg hn hst hd hr
  obtain ⟨b, As, ci, cell, rfl, h1, h2, hc1, hc2, hc3⟩ := hr
  obtain rfl : ci = 15 := by omega
  exact into_V X hx (C := RX15) hown (hts _ q2849) (hts _ q2851) (hts _ qs194) (hts _ q2852) ⟨by decide, by decide⟩ hc1 hc2 (hc3 _ rfl) hg (n := 3) (Nat.succ.inj hn) (by decide +kernel) (by simpa using hst) hd
theorem cl_16673 : clOK RX15 673 2 2 yX15_rangeToLocal 16 16 := by
  intro p l e R s m args below meth c T locs cells slots X hx hts hnw hown g Ar rest hg hn hst hd hr
  obtain ⟨b, As, ci, cell, rfl, h1, h2, hc1, hc2, hc3⟩ := hr
  obtain rfl : ci = 15 := by omega
  exact into_V X hx (C := RX15) hown (hts _ q2857) (hts _ q2859) (hts _ qs196) (hts _ q2860) ⟨by decide, by decide⟩ hc1 hc2 (hc3 _ rfl) hg (n := 1) (Nat.succ.inj hn) (by decide +kernel) (by simpa using hst) hd
theorem cl_16676 : clOK RX15 676 0 2 yJ5_min_2 20 20 := by
  intro p l e R s m args below meth c T locs cells slots X hx hts hnw hown g Ar rest hg hn hst hd hr
  exact into_S X hx hown (hts _ q2837) (hts _ q1664) (hts _ q269) (hts _ q1665) ⟨by decide, by decide⟩ hg hn (by decide +kernel) hst hd
theorem cl_16679 : clOK RX15 679 0 2 yJ5_max_2 20 20 := by
  intro p l e R s m args below meth c T locs cells slots X hx hts hnw hown g Ar rest hg hn hst hd hr
  exact into_S X hx hown (hts _ q2838) (hts _ q1661) (hts _ q269) (hts _ q1662) ⟨by decide, by decide⟩ hg hn (by decide +kernel) hst hd
theorem cl_16681 : clOK RX15 681 2 4 yX15_without 16 16 := by
  intro p l e R s m args below meth c T locs cells slots X hx hts hnw hown g Ar rest hg hn hst hd hr
  obtain ⟨b, As, ci, cell, rfl, h1, h2, hc1, hc2, hc3⟩ := hr
  obtain rfl : ci = 15 := by omega
  exact into_V X hx (C := RX15) hown (hts _ q2853) (hts _ q2855) (hts _ qs195) (hts _ q2856) ⟨by decide, by decide⟩ hc1 hc2 (hc3 _ rfl) hg (n := 3) (Nat.succ.inj hn) (by decide +kernel) (by simpa using hst) hd
theorem cl_16684 : clOK RX15 684 2 4 yX15_leaveRange 16 16 := by
  intro p l e R s m args below meth c T locs cells slots X hx hts hnw hown g Ar rest hg hn hst hd hr
  obtain ⟨b, As, ci, cell, rfl, h1, h2, hc1, hc2, hc3⟩ := hr
  obtain rfl : ci = 15 := by omega
  exact into_V X hx (C := RX15) hown (hts _ q2872) (hts _ q2874) (hts _ qs199) (hts _ q2875) ⟨by decide, by decide⟩ hc1 hc2 (hc3 _ rfl) hg (n := 3) (Nat.succ.inj hn) (by decide +kernel) (by simpa using hst) hd
theorem cl_16688 : clOK RX15 688 2 3 yX15_put 16 16 := by
  intro p l e R s m args below meth c T locs cells slots X hx hts hnw hown g Ar rest hg hn hst hd hr
  obtain ⟨b, As, ci, cell, rfl, h1, h2, hc1, hc2, hc3⟩ := hr
  obtain rfl : ci = 15 := by omega
  exact into_V X hx (C := RX15) hown (hts _ q2886) (hts _ q2888) (hts _ qs202) (hts _ q2889) ⟨by decide, by decide⟩ hc1 hc2 (hc3 _ rfl) hg (n := 2) (Nat.succ.inj hn) (by decide +kernel) (by simpa using hst) hd
theorem cl_16692 : clOK RX15 692 2 2 yX15_changing 16 16 := by
  intro p l e R s m args below meth c T locs cells slots X hx hts hnw hown g Ar rest hg hn hst hd hr
  obtain ⟨b, As, ci, cell, rfl, h1, h2, hc1, hc2, hc3⟩ := hr
  obtain rfl : ci = 15 := by omega
  exact into_V X hx (C := RX15) hown (hts _ q2890) (hts _ q2892) (hts _ qs203) (hts _ q2893) ⟨by decide, by decide⟩ hc1 hc2 (hc3 _ rfl) hg (n := 1) (Nat.succ.inj hn) (by decide +kernel) (by simpa using hst) hd
theorem cl_16695 : clOK RX15 695 2 3 yX15_made 16 16 := by
  intro p l e R s m args below meth c T locs cells slots X hx hts hnw hown g Ar rest hg hn hst hd hr
  obtain ⟨b, As, ci, cell, rfl, h1, h2, hc1, hc2, hc3⟩ := hr
  obtain rfl : ci = 15 := by omega
  exact into_V X hx (C := RX15) hown (hts _ q2894) (hts _ q2896) (hts _ qs204) (hts _ q2897) ⟨by decide, by decide⟩ hc1 hc2 (hc3 _ rfl) hg (n := 2) (Nat.succ.inj hn) (by decide +kernel) (by simpa using hst) hd
theorem cl_16698 : clOK RX15 698 2 3 yX15_madeArray 16 16 := by
  intro p l e R s m args below meth c T locs cells slots X hx hts hnw hown g Ar rest hg hn hst hd hr
  obtain ⟨b, As, ci, cell, rfl, h1, h2, hc1, hc2, hc3⟩ := hr
  obtain rfl : ci = 15 := by omega
  exact into_V X hx (C := RX15) hown (hts _ q2910) (hts _ q2912) (hts _ qs208) (hts _ q2913) ⟨by decide, by decide⟩ hc1 hc2 (hc3 _ rfl) hg (n := 2) (Nat.succ.inj hn) (by decide +kernel) (by simpa using hst) hd
theorem cl_16701 : clOK RX15 701 2 2 yX15_lengthOf 16 16 := by
  intro p l e R s m args below meth c T locs cells slots X hx hts hnw hown g Ar rest hg hn hst hd hr
  obtain ⟨b, As, ci, cell, rfl, h1, h2, hc1, hc2, hc3⟩ := hr
  obtain rfl : ci = 15 := by omega
  exact into_V X hx (C := RX15) hown (hts _ q2914) (hts _ q2916) (hts _ qs209) (hts _ q2917) ⟨by decide, by decide⟩ hc1 hc2 (hc3 _ rfl) hg (n := 1) (Nat.succ.inj hn) (by decide +kernel) (by simpa using hst) hd
theorem cl_16705 : clOK RX15 705 2 3 yX15_element 16 16 := by
  intro p l e R s m args below meth c T locs cells slots X hx hts hnw hown g Ar rest hg hn hst hd hr
  obtain ⟨b, As, ci, cell, rfl, h1, h2, hc1, hc2, hc3⟩ := hr
  obtain rfl : ci = 15 := by omega
  exact into_V X hx (C := RX15) hown (hts _ q2926) (hts _ q2928) (hts _ qs212) (hts _ q2929) ⟨by decide, by decide⟩ hc1 hc2 (hc3 _ rfl) hg (n := 2) (Nat.succ.inj hn) (by decide +kernel) (by simpa using hst) hd
theorem cl_16709 : clOK RX15 709 2 4 yX15_fieldStep 16 16 := by
  intro p l e R s m args below meth c T locs cells slots X hx hts hnw hown g Ar rest hg hn hst hd hr
  obtain ⟨b, As, ci, cell, rfl, h1, h2, hc1, hc2, hc3⟩ := hr
  obtain rfl : ci = 15 := by omega
  exact into_V X hx (C := RX15) hown (hts _ q2942) (hts _ q2944) (hts _ qs215) (hts _ q2945) ⟨by decide, by decide⟩ hc1 hc2 (hc3 _ rfl) hg (n := 3) (Nat.succ.inj hn) (by decide +kernel) (by simpa using hst) hd
theorem cl_16713 : clOK RX15 713 2 4 yX15_ofType 16 16 := by
  intro p l e R s m args below meth c T locs cells slots X hx hts hnw hown g Ar rest hg hn hst hd hr
  obtain ⟨b, As, ci, cell, rfl, h1, h2, hc1, hc2, hc3⟩ := hr
  obtain rfl : ci = 15 := by omega
  exact into_V X hx (C := RX15) hown (hts _ q2946) (hts _ q2948) (hts _ qs216) (hts _ q2949) ⟨by decide, by decide⟩ hc1 hc2 (hc3 _ rfl) hg (n := 3) (Nat.succ.inj hn) (by decide +kernel) (by simpa using hst) hd
theorem cl_16716 : clOK RX15 716 2 4 yX15_call 16 16 := by
  intro p l e R s m args below meth c T locs cells slots X hx hts hnw hown g Ar rest hg hn hst hd hr
  obtain ⟨b, As, ci, cell, rfl, h1, h2, hc1, hc2, hc3⟩ := hr
  obtain rfl : ci = 15 := by omega
  exact into_V X hx (C := RX15) hown (hts _ q2950) (hts _ q2952) (hts _ qs217) (hts _ q2953) ⟨by decide, by decide⟩ hc1 hc2 (hc3 _ rfl) hg (n := 3) (Nat.succ.inj hn) (by decide +kernel) (by simpa using hst) hd
theorem cl_16719 : clOK RX15 719 2 4 yX15_given 16 16 := by
  intro p l e R s m args below meth c T locs cells slots X hx hts hnw hown g Ar rest hg hn hst hd hr
  obtain ⟨b, As, ci, cell, rfl, h1, h2, hc1, hc2, hc3⟩ := hr
  obtain rfl : ci = 15 := by omega
  exact into_V X hx (C := RX15) hown (hts _ q2954) (hts _ q2956) (hts _ qs218) (hts _ q2957) ⟨by decide, by decide⟩ hc1 hc2 (hc3 _ rfl) hg (n := 3) (Nat.succ.inj hn) (by decide +kernel) (by simpa using hst) hd
theorem cl_16722 : clOK RX15 722 2 3 yX15_numbers 16 16 := by
  intro p l e R s m args below meth c T locs cells slots X hx hts hnw hown g Ar rest hg hn hst hd hr
  obtain ⟨b, As, ci, cell, rfl, h1, h2, hc1, hc2, hc3⟩ := hr
  obtain rfl : ci = 15 := by omega
  exact into_V X hx (C := RX15) hown (hts _ q2958) (hts _ q2960) (hts _ qs219) (hts _ q2961) ⟨by decide, by decide⟩ hc1 hc2 (hc3 _ rfl) hg (n := 2) (Nat.succ.inj hn) (by decide +kernel) (by simpa using hst) hd
theorem cl_16725 : clOK RX15 725 2 4 yX15_joinSlotInto 16 16 := by
  intro p l e R s m args below meth c T locs cells slots X hx hts hnw hown g Ar rest hg hn hst hd hr
  obtain ⟨b, As, ci, cell, rfl, h1, h2, hc1, hc2, hc3⟩ := hr
  obtain rfl : ci = 15 := by omega
  exact into_V X hx (C := RX15) hown (hts _ q2935) (hts _ q2937) (hts _ qs214) (hts _ q2938) ⟨by decide, by decide⟩ hc1 hc2 (hc3 _ rfl) hg (n := 3) (Nat.succ.inj hn) (by decide +kernel) (by simpa using hst) hd
theorem cl_16729 : clOK RX15 729 2 6 yX15_product 16 16 := by
  intro p l e R s m args below meth c T locs cells slots X hx hts hnw hown g Ar rest hg hn hst hd hr
  obtain ⟨b, As, ci, cell, rfl, h1, h2, hc1, hc2, hc3⟩ := hr
  obtain rfl : ci = 15 := by omega
  exact into_V X hx (C := RX15) hown (hts _ q2962) (hts _ q2964) (hts _ qs220) (hts _ q2965) ⟨by decide, by decide⟩ hc1 hc2 (hc3 _ rfl) hg (n := 5) (Nat.succ.inj hn) (by decide +kernel) (by simpa using hst) hd
theorem cl_16733 : clOK RX15 733 2 6 yX15_quotient 16 16 := by
  intro p l e R s m args below meth c T locs cells slots X hx hts hnw hown g Ar rest hg hn hst hd hr
  obtain ⟨b, As, ci, cell, rfl, h1, h2, hc1, hc2, hc3⟩ := hr
  obtain rfl : ci = 15 := by omega
  exact into_V X hx (C := RX15) hown (hts _ q2966) (hts _ q2968) (hts _ qs221) (hts _ q2969) ⟨by decide, by decide⟩ hc1 hc2 (hc3 _ rfl) hg (n := 5) (Nat.succ.inj hn) (by decide +kernel) (by simpa using hst) hd
theorem cl_16737 : clOK RX15 737 2 6 yX15_rest 16 16 := by
  intro p l e R s m args below meth c T locs cells slots X hx hts hnw hown g Ar rest hg hn hst hd hr
  obtain ⟨b, As, ci, cell, rfl, h1, h2, hc1, hc2, hc3⟩ := hr
  obtain rfl : ci = 15 := by omega
  exact into_V X hx (C := RX15) hown (hts _ q2974) (hts _ q2976) (hts _ qs223) (hts _ q2977) ⟨by decide, by decide⟩ hc1 hc2 (hc3 _ rfl) hg (n := 5) (Nat.succ.inj hn) (by decide +kernel) (by simpa using hst) hd
theorem cl_16744 : clOK RX15 744 2 3 yX15_raisedByZero 16 16 := by
  intro p l e R s m args below meth c T locs cells slots X hx hts hnw hown g Ar rest hg hn hst hd hr
  obtain ⟨b, As, ci, cell, rfl, h1, h2, hc1, hc2, hc3⟩ := hr
  obtain rfl : ci = 15 := by omega
  exact into_V X hx (C := RX15) hown (hts _ q2970) (hts _ q2972) (hts _ qs222) (hts _ q2973) ⟨by decide, by decide⟩ hc1 hc2 (hc3 _ rfl) hg (n := 2) (Nat.succ.inj hn) (by decide +kernel) (by simpa using hst) hd
theorem cl_16748 : clOK RX15 748 2 4 yX15_joinNothing 16 16 := by
  intro p l e R s m args below meth c T locs cells slots X hx hts hnw hown g Ar rest hg hn hst hd hr
  obtain ⟨b, As, ci, cell, rfl, h1, h2, hc1, hc2, hc3⟩ := hr
  obtain rfl : ci = 15 := by omega
  exact into_V X hx (C := RX15) hown (hts _ q2898) (hts _ q2900) (hts _ qs205) (hts _ q2901) ⟨by decide, by decide⟩ hc1 hc2 (hc3 _ rfl) hg (n := 3) (Nat.succ.inj hn) (by decide +kernel) (by simpa using hst) hd
theorem cl_16751 : clOK RX15 751 2 2 yX15_dereference 16 16 := by
  intro p l e R s m args below meth c T locs cells slots X hx hts hnw hown g Ar rest hg hn hst hd hr
  obtain ⟨b, As, ci, cell, rfl, h1, h2, hc1, hc2, hc3⟩ := hr
  obtain rfl : ci = 15 := by omega
  exact into_V X hx (C := RX15) hown (hts _ q2918) (hts _ q2920) (hts _ qs210) (hts _ q2921) ⟨by decide, by decide⟩ hc1 hc2 (hc3 _ rfl) hg (n := 1) (Nat.succ.inj hn) (by decide +kernel) (by simpa using hst) hd
theorem cl_16754 : clOK RX15 754 2 5 yX15_leaveValues 16 16 := by
  intro p l e R s m args below meth c T locs cells slots X hx hts hnw hown g Ar rest hg hn hst hd hr
  obtain ⟨b, As, ci, cell, rfl, h1, h2, hc1, hc2, hc3⟩ := hr
  obtain rfl : ci = 15 := by omega
  exact into_V X hx (C := RX15) hown (hts _ q2922) (hts _ q2924) (hts _ qs211) (hts _ q2925) ⟨by decide, by decide⟩ hc1 hc2 (hc3 _ rfl) hg (n := 4) (Nat.succ.inj hn) (by decide +kernel) (by simpa using hst) hd
theorem cl_16758 : clOK RX15 758 2 4 yX15_index 16 16 := by
  intro p l e R s m args below meth c T locs cells slots X hx hts hnw hown g Ar rest hg hn hst hd hr
  obtain ⟨b, As, ci, cell, rfl, h1, h2, hc1, hc2, hc3⟩ := hr
  obtain rfl : ci = 15 := by omega
  exact into_V X hx (C := RX15) hown (hts _ q2930) (hts _ q2932) (hts _ qs213) (hts _ q2933) ⟨by decide, by decide⟩ hc1 hc2 (hc3 _ rfl) hg (n := 3) (Nat.succ.inj hn) (by decide +kernel) (by simpa using hst) hd
theorem cl_16765 : clOK RX15 765 2 1 yX15_cut 16 16 := by
  intro p l e R s m args below meth c T locs cells slots X hx hts hnw hown g Ar rest hg hn hst hd hr
  obtain ⟨b, As, ci, cell, rfl, h1, h2, hc1, hc2, hc3⟩ := hr
  obtain rfl : ci = 15 := by omega
  exact into_V X hx (C := RX15) hown (hts _ q2494) (hts _ q2496) (hts _ qs125) (hts _ q2497) ⟨by decide, by decide⟩ hc1 hc2 (hc3 _ rfl) hg (n := 0) (Nat.succ.inj hn) (by decide +kernel) (by simpa using hst) hd
theorem cl_16768 : clOK RX15 768 2 1 yX15_isProgram 16 16 := by
  intro p l e R s m args below meth c T locs cells slots X hx hts hnw hown g Ar rest hg hn hst hd hr
  obtain ⟨b, As, ci, cell, rfl, h1, h2, hc1, hc2, hc3⟩ := hr
  obtain rfl : ci = 15 := by omega
  exact into_V X hx (C := RX15) hown (hts _ q2498) (hts _ q2500) (hts _ qs126) (hts _ q2501) ⟨by decide, by decide⟩ hc1 hc2 (hc3 _ rfl) hg (n := 0) (Nat.succ.inj hn) (by decide +kernel) (by simpa using hst) hd
theorem cl_16771 : clOK RX15 771 2 2 yX15_classNames 16 16 := by
  intro p l e R s m args below meth c T locs cells slots X hx hts hnw hown g Ar rest hg hn hst hd hr
  obtain ⟨b, As, ci, cell, rfl, h1, h2, hc1, hc2, hc3⟩ := hr
  obtain rfl : ci = 15 := by omega
  exact into_V X hx (C := RX15) hown (hts _ q2587) (hts _ q2589) (hts _ qs143) (hts _ q2590) ⟨by decide, by decide⟩ hc1 hc2 (hc3 _ rfl) hg (n := 1) (Nat.succ.inj hn) (by decide +kernel) (by simpa using hst) hd
theorem cl_16774 : clOK RX15 774 2 2 yX15_members 16 16 := by
  intro p l e R s m args below meth c T locs cells slots X hx hts hnw hown g Ar rest hg hn hst hd hr
  obtain ⟨b, As, ci, cell, rfl, h1, h2, hc1, hc2, hc3⟩ := hr
  obtain rfl : ci = 15 := by omega
  exact into_V X hx (C := RX15) hown (hts _ q2616) (hts _ q2618) (hts _ qs150) (hts _ q2619) ⟨by decide, by decide⟩ hc1 hc2 (hc3 _ rfl) hg (n := 1) (Nat.succ.inj hn) (by decide +kernel) (by simpa using hst) hd
theorem cl_16777 : clOK RX15 777 2 2 yX15_lines 16 16 := by
  intro p l e R s m args below meth c T locs cells slots X hx hts hnw hown g Ar rest hg hn hst hd hr
  obtain ⟨b, As, ci, cell, rfl, h1, h2, hc1, hc2, hc3⟩ := hr
  obtain rfl : ci = 15 := by omega
  exact into_V X hx (C := RX15) hown (hts _ q2656) (hts _ q2658) (hts _ qs159) (hts _ q2659) ⟨by decide, by decide⟩ hc1 hc2 (hc3 _ rfl) hg (n := 1) (Nat.succ.inj hn) (by decide +kernel) (by simpa using hst) hd
theorem cl_16780 : clOK RX15 780 2 2 yX15_settled 16 16 := by
  intro p l e R s m args below meth c T locs cells slots X hx hts hnw hown g Ar rest hg hn hst hd hr
  obtain ⟨b, As, ci, cell, rfl, h1, h2, hc1, hc2, hc3⟩ := hr
  obtain rfl : ci = 15 := by omega
  exact into_V X hx (C := RX15) hown (hts _ q2704) (hts _ q2706) (hts _ qs171) (hts _ q2707) ⟨by decide, by decide⟩ hc1 hc2 (hc3 _ rfl) hg (n := 1) (Nat.succ.inj hn) (by decide +kernel) (by simpa using hst) hd
theorem cl_16783 : clOK RX15 783 2 3 yX15_heights 16 16 := by
  intro p l e R s m args below meth c T locs cells slots X hx hts hnw hown g Ar rest hg hn hst hd hr
  obtain ⟨b, As, ci, cell, rfl, h1, h2, hc1, hc2, hc3⟩ := hr
  obtain rfl : ci = 15 := by omega
  exact into_V X hx (C := RX15) hown (hts _ q2712) (hts _ q2714) (hts _ qs172) (hts _ q2715) ⟨by decide, by decide⟩ hc1 hc2 (hc3 _ rfl) hg (n := 2) (Nat.succ.inj hn) (by decide +kernel) (by simpa using hst) hd
theorem cl_16785 : clOK RX15 785 2 3 yX15_types 16 16 := by
  intro p l e R s m args below meth c T locs cells slots X hx hts hnw hown g Ar rest hg hn hst hd hr
  obtain ⟨b, As, ci, cell, rfl, h1, h2, hc1, hc2, hc3⟩ := hr
  obtain rfl : ci = 15 := by omega
  exact into_V X hx (C := RX15) hown (hts _ q2739) (hts _ q2741) (hts _ qs175) (hts _ q2742) ⟨by decide, by decide⟩ hc1 hc2 (hc3 _ rfl) hg (n := 2) (Nat.succ.inj hn) (by decide +kernel) (by simpa using hst) hd
theorem cl_16787 : clOK RX15 787 2 2 yX15_fault 16 16 := by
  intro p l e R s m args below meth c T locs cells slots X hx hts hnw hown g Ar rest hg hn hst hd hr
  obtain ⟨b, As, ci, cell, rfl, h1, h2, hc1, hc2, hc3⟩ := hr
  obtain rfl : ci = 15 := by omega
  exact into_V X hx (C := RX15) hown (hts _ q2490) (hts _ q2492) (hts _ qs124) (hts _ q2493) ⟨by decide, by decide⟩ hc1 hc2 (hc3 _ rfl) hg (n := 1) (Nat.succ.inj hn) (by decide +kernel) (by simpa using hst) hd
theorem cl_16790 : clOK RX15 790 2 2 yX15_prove 16 16 := by
  intro p l e R s m args below meth c T locs cells slots X hx hts hnw hown g Ar rest hg hn hst hd hr
  obtain ⟨b, As, ci, cell, rfl, h1, h2, hc1, hc2, hc3⟩ := hr
  obtain rfl : ci = 15 := by omega
  exact into_V X hx (C := RX15) hown (hts _ q2792) (hts _ q2794) (hts _ qs183) (hts _ q2795) ⟨by decide, by decide⟩ hc1 hc2 (hc3 _ rfl) hg (n := 1) (Nat.succ.inj hn) (by decide +kernel) (by simpa using hst) hd
theorem cl_16797 : clOK RX15 797 2 2 yX15_isCode 16 16 := by
  intro p l e R s m args below meth c T locs cells slots X hx hts hnw hown g Ar rest hg hn hst hd hr
  obtain ⟨b, As, ci, cell, rfl, h1, h2, hc1, hc2, hc3⟩ := hr
  obtain rfl : ci = 15 := by omega
  exact into_V X hx (C := RX15) hown (hts _ q2992) (hts _ q2994) (hts _ qs224) (hts _ q2995) ⟨by decide, by decide⟩ hc1 hc2 (hc3 _ rfl) hg (n := 1) (Nat.succ.inj hn) (by decide +kernel) (by simpa using hst) hd
theorem cl_16800 : clOK RX15 800 2 3 yX15_slot 16 16 := by
  intro p l e R s m args below meth c T locs cells slots X hx hts hnw hown g Ar rest hg hn hst hd hr
  obtain ⟨b, As, ci, cell, rfl, h1, h2, hc1, hc2, hc3⟩ := hr
  obtain rfl : ci = 15 := by omega
  exact into_V X hx (C := RX15) hown (hts _ q3008) (hts _ q3010) (hts _ qs225) (hts _ q3011) ⟨by decide, by decide⟩ hc1 hc2 (hc3 _ rfl) hg (n := 2) (Nat.succ.inj hn) (by decide +kernel) (by simpa using hst) hd
theorem cl_16803 : clOK RX15 803 2 3 yX15_kind 16 16 := by
  intro p l e R s m args below meth c T locs cells slots X hx hts hnw hown g Ar rest hg hn hst hd hr
  obtain ⟨b, As, ci, cell, rfl, h1, h2, hc1, hc2, hc3⟩ := hr
  obtain rfl : ci = 15 := by omega
  exact into_V X hx (C := RX15) hown (hts _ q3016) (hts _ q3005) (hts _ q3006) (hts _ q3007) ⟨by decide, by decide⟩ hc1 hc2 (hc3 _ rfl) hg (n := 2) (Nat.succ.inj hn) (by decide +kernel) (by simpa using hst) hd
theorem cl_16829 : clOK RX15 829 2 2 yX15_enter 16 16 := by
  intro p l e R s m args below meth c T locs cells slots X hx hts hnw hown g Ar rest hg hn hst hd hr
  obtain ⟨b, As, ci, cell, rfl, h1, h2, hc1, hc2, hc3⟩ := hr
  obtain rfl : ci = 15 := by omega
  exact into_V X hx (C := RX15) hown (hts _ q3041) (hts _ q3043) (hts _ qs226) (hts _ q3044) ⟨by decide, by decide⟩ hc1 hc2 (hc3 _ rfl) hg (n := 1) (Nat.succ.inj hn) (by decide +kernel) (by simpa using hst) hd
theorem cl_16832 : clOK RX15 832 2 2 yX15_holds 16 16 := by
  intro p l e R s m args below meth c T locs cells slots X hx hts hnw hown g Ar rest hg hn hst hd hr
  obtain ⟨b, As, ci, cell, rfl, h1, h2, hc1, hc2, hc3⟩ := hr
  obtain rfl : ci = 15 := by omega
  exact into_V X hx (C := RX15) hown (hts _ q3046) (hts _ q3048) (hts _ qs227) (hts _ q3049) ⟨by decide, by decide⟩ hc1 hc2 (hc3 _ rfl) hg (n := 1) (Nat.succ.inj hn) (by decide +kernel) (by simpa using hst) hd
theorem cl_16838 : clOK RX15 838 2 2 yX15_step 16 16 := by
  intro p l e R s m args below meth c T locs cells slots X hx hts hnw hown g Ar rest hg hn hst hd hr
  obtain ⟨b, As, ci, cell, rfl, h1, h2, hc1, hc2, hc3⟩ := hr
  obtain rfl : ci = 15 := by omega
  exact into_V X hx (C := RX15) hown (hts _ q3076) (hts _ q3078) (hts _ qs232) (hts _ q3079) ⟨by decide, by decide⟩ hc1 hc2 (hc3 _ rfl) hg (n := 1) (Nat.succ.inj hn) (by decide +kernel) (by simpa using hst) hd
theorem cl_16848 : clOK RX15 848 0 1 yX15_isObject 16 16 := by
  intro p l e R s m args below meth c T locs cells slots X hx hts hnw hown g Ar rest hg hn hst hd hr
  exact into_S X hx hown (hts _ q3073) (hts _ q3074) (hts _ q266) (hts _ q3075) ⟨by decide, by decide⟩ hg hn (by decide +kernel) hst hd
theorem cl_16852 : clOK RX15 852 0 1 yX15_objectOf 16 16 := by
  intro p l e R s m args below meth c T locs cells slots X hx hts hnw hown g Ar rest hg hn hst hd hr
  exact into_S X hx hown (hts _ q3066) (hts _ q3067) (hts _ q266) (hts _ q3068) ⟨by decide, by decide⟩ hg hn (by decide +kernel) hst hd
theorem cl_16856 : clOK RX15 856 2 2 yX15_local 16 16 := by
  intro p l e R s m args below meth c T locs cells slots X hx hts hnw hown g Ar rest hg hn hst hd hr
  obtain ⟨b, As, ci, cell, rfl, h1, h2, hc1, hc2, hc3⟩ := hr
  obtain rfl : ci = 15 := by omega
  exact into_V X hx (C := RX15) hown (hts _ q3050) (hts _ q3052) (hts _ qs228) (hts _ q3053) ⟨by decide, by decide⟩ hc1 hc2 (hc3 _ rfl) hg (n := 1) (Nat.succ.inj hn) (by decide +kernel) (by simpa using hst) hd
theorem cl_16859 : clOK RX15 859 2 3 yX15_isHeld 16 16 := by
  intro p l e R s m args below meth c T locs cells slots X hx hts hnw hown g Ar rest hg hn hst hd hr
  obtain ⟨b, As, ci, cell, rfl, h1, h2, hc1, hc2, hc3⟩ := hr
  obtain rfl : ci = 15 := by omega
  exact into_V X hx (C := RX15) hown (hts _ q3054) (hts _ q3056) (hts _ qs229) (hts _ q3057) ⟨by decide, by decide⟩ hc1 hc2 (hc3 _ rfl) hg (n := 2) (Nat.succ.inj hn) (by decide +kernel) (by simpa using hst) hd
theorem cl_16862 : clOK RX15 862 0 1 yX15_isInt 16 16 := by
  intro p l e R s m args below meth c T locs cells slots X hx hts hnw hown g Ar rest hg hn hst hd hr
  exact into_S X hx hown (hts _ q3058) (hts _ q3059) (hts _ q266) (hts _ q3060) ⟨by decide, by decide⟩ hg hn (by decide +kernel) hst hd
theorem cl_16865 : clOK RX15 865 2 2 yX15_siteOf 16 16 := by
  intro p l e R s m args below meth c T locs cells slots X hx hts hnw hown g Ar rest hg hn hst hd hr
  obtain ⟨b, As, ci, cell, rfl, h1, h2, hc1, hc2, hc3⟩ := hr
  obtain rfl : ci = 15 := by omega
  exact into_V X hx (C := RX15) hown (hts _ q3062) (hts _ q3064) (hts _ qs230) (hts _ q3065) ⟨by decide, by decide⟩ hc1 hc2 (hc3 _ rfl) hg (n := 1) (Nat.succ.inj hn) (by decide +kernel) (by simpa using hst) hd
theorem cl_16868 : clOK RX15 868 2 2 yX15_isArrayValue 16 16 := by
  intro p l e R s m args below meth c T locs cells slots X hx hts hnw hown g Ar rest hg hn hst hd hr
  obtain ⟨b, As, ci, cell, rfl, h1, h2, hc1, hc2, hc3⟩ := hr
  obtain rfl : ci = 15 := by omega
  exact into_V X hx (C := RX15) hown (hts _ q3069) (hts _ q3071) (hts _ qs231) (hts _ q3072) ⟨by decide, by decide⟩ hc1 hc2 (hc3 _ rfl) hg (n := 1) (Nat.succ.inj hn) (by decide +kernel) (by simpa using hst) hd
theorem cl_16871 : clOK RX15 871 2 3 yX15_ended 16 16 := by
  intro p l e R s m args below meth c T locs cells slots X hx hts hnw hown g Ar rest hg hn hst hd hr
  obtain ⟨b, As, ci, cell, rfl, h1, h2, hc1, hc2, hc3⟩ := hr
  obtain rfl : ci = 15 := by omega
  exact into_V X hx (C := RX15) hown (hts _ q3100) (hts _ q3102) (hts _ qs238) (hts _ q3103) ⟨by decide, by decide⟩ hc1 hc2 (hc3 _ rfl) hg (n := 2) (Nat.succ.inj hn) (by decide +kernel) (by simpa using hst) hd
theorem cl_16874 : clOK RX15 874 2 5 yX15_object 16 16 := by
  intro p l e R s m args below meth c T locs cells slots X hx hts hnw hown g Ar rest hg hn hst hd hr
  obtain ⟨b, As, ci, cell, rfl, h1, h2, hc1, hc2, hc3⟩ := hr
  obtain rfl : ci = 15 := by omega
  exact into_V X hx (C := RX15) hown (hts _ q3096) (hts _ q3098) (hts _ qs237) (hts _ q3099) ⟨by decide, by decide⟩ hc1 hc2 (hc3 _ rfl) hg (n := 4) (Nat.succ.inj hn) (by decide +kernel) (by simpa using hst) hd
theorem cl_16878 : clOK RX15 878 2 3 yX15_toss 16 16 := by
  intro p l e R s m args below meth c T locs cells slots X hx hts hnw hown g Ar rest hg hn hst hd hr
  obtain ⟨b, As, ci, cell, rfl, h1, h2, hc1, hc2, hc3⟩ := hr
  obtain rfl : ci = 15 := by omega
  exact into_V X hx (C := RX15) hown (hts _ q3104) (hts _ q3106) (hts _ qs239) (hts _ q3107) ⟨by decide, by decide⟩ hc1 hc2 (hc3 _ rfl) hg (n := 2) (Nat.succ.inj hn) (by decide +kernel) (by simpa using hst) hd
theorem cl_16882 : clOK RX15 882 2 2 yX15_push 16 16 := by
  intro p l e R s m args below meth c T locs cells slots X hx hts hnw hown g Ar rest hg hn hst hd hr
  obtain ⟨b, As, ci, cell, rfl, h1, h2, hc1, hc2, hc3⟩ := hr
  obtain rfl : ci = 15 := by omega
  exact into_V X hx (C := RX15) hown (hts _ q3080) (hts _ q3082) (hts _ qs233) (hts _ q3083) ⟨by decide, by decide⟩ hc1 hc2 (hc3 _ rfl) hg (n := 1) (Nat.succ.inj hn) (by decide +kernel) (by simpa using hst) hd
theorem cl_16885 : clOK RX15 885 2 1 yX15_pop 16 16 := by
  intro p l e R s m args below meth c T locs cells slots X hx hts hnw hown g Ar rest hg hn hst hd hr
  obtain ⟨b, As, ci, cell, rfl, h1, h2, hc1, hc2, hc3⟩ := hr
  obtain rfl : ci = 15 := by omega
  exact into_V X hx (C := RX15) hown (hts _ q3084) (hts _ q3086) (hts _ qs234) (hts _ q3087) ⟨by decide, by decide⟩ hc1 hc2 (hc3 _ rfl) hg (n := 0) (Nat.succ.inj hn) (by decide +kernel) (by simpa using hst) hd
theorem cl_16889 : clOK RX15 889 2 3 yX15_reckon 16 16 := by
  intro p l e R s m args below meth c T locs cells slots X hx hts hnw hown g Ar rest hg hn hst hd hr
  obtain ⟨b, As, ci, cell, rfl, h1, h2, hc1, hc2, hc3⟩ := hr
  obtain rfl : ci = 15 := by omega
  exact into_V X hx (C := RX15) hown (hts _ q3088) (hts _ q3090) (hts _ qs235) (hts _ q3091) ⟨by decide, by decide⟩ hc1 hc2 (hc3 _ rfl) hg (n := 2) (Nat.succ.inj hn) (by decide +kernel) (by simpa using hst) hd
theorem cl_16892 : clOK RX15 892 2 3 yX15_branch 16 16 := by
  intro p l e R s m args below meth c T locs cells slots X hx hts hnw hown g Ar rest hg hn hst hd hr
  obtain ⟨b, As, ci, cell, rfl, h1, h2, hc1, hc2, hc3⟩ := hr
  obtain rfl : ci = 15 := by omega
  exact into_V X hx (C := RX15) hown (hts _ q3112) (hts _ q3114) (hts _ qs241) (hts _ q3115) ⟨by decide, by decide⟩ hc1 hc2 (hc3 _ rfl) hg (n := 2) (Nat.succ.inj hn) (by decide +kernel) (by simpa using hst) hd
theorem cl_16895 : clOK RX15 895 2 4 yX15_objectStep 16 16 := by
  intro p l e R s m args below meth c T locs cells slots X hx hts hnw hown g Ar rest hg hn hst hd hr
  obtain ⟨b, As, ci, cell, rfl, h1, h2, hc1, hc2, hc3⟩ := hr
  obtain rfl : ci = 15 := by omega
  exact into_V X hx (C := RX15) hown (hts _ q3116) (hts _ q3118) (hts _ qs242) (hts _ q3119) ⟨by decide, by decide⟩ hc1 hc2 (hc3 _ rfl) hg (n := 3) (Nat.succ.inj hn) (by decide +kernel) (by simpa using hst) hd
theorem cl_16899 : clOK RX15 899 2 1 yX15_next 16 16 := by
  intro p l e R s m args below meth c T locs cells slots X hx hts hnw hown g Ar rest hg hn hst hd hr
  obtain ⟨b, As, ci, cell, rfl, h1, h2, hc1, hc2, hc3⟩ := hr
  obtain rfl : ci = 15 := by omega
  exact into_V X hx (C := RX15) hown (hts _ q3108) (hts _ q3110) (hts _ qs240) (hts _ q3111) ⟨by decide, by decide⟩ hc1 hc2 (hc3 _ rfl) hg (n := 0) (Nat.succ.inj hn) (by decide +kernel) (by simpa using hst) hd
theorem cl_16902 : clOK RX15 902 2 3 yX15_raise 16 16 := by
  intro p l e R s m args below meth c T locs cells slots X hx hts hnw hown g Ar rest hg hn hst hd hr
  obtain ⟨b, As, ci, cell, rfl, h1, h2, hc1, hc2, hc3⟩ := hr
  obtain rfl : ci = 15 := by omega
  exact into_V X hx (C := RX15) hown (hts _ q3092) (hts _ q3094) (hts _ qs236) (hts _ q3095) ⟨by decide, by decide⟩ hc1 hc2 (hc3 _ rfl) hg (n := 2) (Nat.succ.inj hn) (by decide +kernel) (by simpa using hst) hd
theorem cl_16905 : clOK RX15 905 2 4 yX15_make 16 16 := by
  intro p l e R s m args below meth c T locs cells slots X hx hts hnw hown g Ar rest hg hn hst hd hr
  obtain ⟨b, As, ci, cell, rfl, h1, h2, hc1, hc2, hc3⟩ := hr
  obtain rfl : ci = 15 := by omega
  exact into_V X hx (C := RX15) hown (hts _ q3120) (hts _ q3122) (hts _ qs243) (hts _ q3123) ⟨by decide, by decide⟩ hc1 hc2 (hc3 _ rfl) hg (n := 3) (Nat.succ.inj hn) (by decide +kernel) (by simpa using hst) hd
theorem cl_16908 : clOK RX15 908 2 3 yX15_elementStep 16 16 := by
  intro p l e R s m args below meth c T locs cells slots X hx hts hnw hown g Ar rest hg hn hst hd hr
  obtain ⟨b, As, ci, cell, rfl, h1, h2, hc1, hc2, hc3⟩ := hr
  obtain rfl : ci = 15 := by omega
  exact into_V X hx (C := RX15) hown (hts _ q3124) (hts _ q3126) (hts _ qs244) (hts _ q3127) ⟨by decide, by decide⟩ hc1 hc2 (hc3 _ rfl) hg (n := 2) (Nat.succ.inj hn) (by decide +kernel) (by simpa using hst) hd
theorem cl_16911 : clOK RX15 911 2 4 yX15_callStep 16 16 := by
  intro p l e R s m args below meth c T locs cells slots X hx hts hnw hown g Ar rest hg hn hst hd hr
  obtain ⟨b, As, ci, cell, rfl, h1, h2, hc1, hc2, hc3⟩ := hr
  obtain rfl : ci = 15 := by omega
  exact into_V X hx (C := RX15) hown (hts _ q3128) (hts _ q3130) (hts _ qs245) (hts _ q3131) ⟨by decide, by decide⟩ hc1 hc2 (hc3 _ rfl) hg (n := 3) (Nat.succ.inj hn) (by decide +kernel) (by simpa using hst) hd
theorem cl_19009 : clOK "SafeCodeLaw" 9 1 1 yX0_init 1 1 := by
  intro p l e R s m args below meth c T locs cells slots X hx hts hnw hown g Ar rest hg hn hst hd hr
  obtain ⟨b, As, ci, cell, rfl, h1, h2, hc1, hc2, hc3⟩ := hr
  exact into_I X hx hown rfl (hts _ q277) (hts _ q278) (hts _ q279) ⟨by decide, by decide⟩ hg (n := 0) (Nat.succ.inj hn) (by decide +kernel) (by simpa using hst) hd
theorem cl_19012 : clOK "SafeCodeLaw" 12 1 1 yX15_init 16 16 := by
  intro p l e R s m args below meth c T locs cells slots X hx hts hnw hown g Ar rest hg hn hst hd hr
  obtain ⟨b, As, ci, cell, rfl, h1, h2, hc1, hc2, hc3⟩ := hr
  exact into_I X hx hown rfl (hts _ q2065) (hts _ q2066) (hts _ q2067) ⟨by decide, by decide⟩ hg (n := 0) (Nat.succ.inj hn) (by decide +kernel) (by simpa using hst) hd
theorem cl_19013 : clOK "SafeCodeLaw" 13 2 6 yX0_feed 1 1 := by
  intro p l e R s m args below meth c T locs cells slots X hx hts hnw hown g Ar rest hg hn hst hd hr
  obtain ⟨b, As, ci, cell, rfl, h1, h2, hc1, hc2, hc3⟩ := hr
  obtain rfl : ci = 0 := by omega
  exact into_V X hx (C := RX0) hown (hts _ q1061) (hts _ q1062) (hts _ q1063) (hts _ q1064) ⟨by decide, by decide⟩ hc1 hc2 (hc3 _ rfl) hg (n := 5) (Nat.succ.inj hn) (by decide +kernel) (by simpa using hst) hd
theorem cl_19017 : clOK "SafeCodeLaw" 17 2 6 yX15_feed 16 16 := by
  intro p l e R s m args below meth c T locs cells slots X hx hts hnw hown g Ar rest hg hn hst hd hr
  obtain ⟨b, As, ci, cell, rfl, h1, h2, hc1, hc2, hc3⟩ := hr
  obtain rfl : ci = 15 := by omega
  exact into_V X hx (C := RX15) hown (hts _ q2473) (hts _ q2474) (hts _ q2475) (hts _ q2476) ⟨by decide, by decide⟩ hc1 hc2 (hc3 _ rfl) hg (n := 5) (Nat.succ.inj hn) (by decide +kernel) (by simpa using hst) hd
theorem cl_19018 : clOK "SafeCodeLaw" 18 2 2 yX0_end 1 1 := by
  intro p l e R s m args below meth c T locs cells slots X hx hts hnw hown g Ar rest hg hn hst hd hr
  obtain ⟨b, As, ci, cell, rfl, h1, h2, hc1, hc2, hc3⟩ := hr
  obtain rfl : ci = 0 := by omega
  exact into_V X hx (C := RX0) hown (hts _ q1070) (hts _ q1071) (hts _ q1072) (hts _ q1073) ⟨by decide, by decide⟩ hc1 hc2 (hc3 _ rfl) hg (n := 1) (Nat.succ.inj hn) (by decide +kernel) (by simpa using hst) hd
theorem cl_19022 : clOK "SafeCodeLaw" 22 2 2 yX15_end 16 16 := by
  intro p l e R s m args below meth c T locs cells slots X hx hts hnw hown g Ar rest hg hn hst hd hr
  obtain ⟨b, As, ci, cell, rfl, h1, h2, hc1, hc2, hc3⟩ := hr
  obtain rfl : ci = 15 := by omega
  exact into_V X hx (C := RX15) hown (hts _ q2482) (hts _ q2483) (hts _ q2484) (hts _ q2485) ⟨by decide, by decide⟩ hc1 hc2 (hc3 _ rfl) hg (n := 1) (Nat.succ.inj hn) (by decide +kernel) (by simpa using hst) hd
theorem cl_19023 : clOK "SafeCodeLaw" 23 2 1 yX0_load 1 1 := by
  intro p l e R s m args below meth c T locs cells slots X hx hts hnw hown g Ar rest hg hn hst hd hr
  obtain ⟨b, As, ci, cell, rfl, h1, h2, hc1, hc2, hc3⟩ := hr
  obtain rfl : ci = 0 := by omega
  exact into_VW X hx (C := RX0) hown (hts _ q1074) (hts _ q1075) (hts _ q1076) (hts _ q1077) ⟨by decide, by decide⟩ hc1 hc2 (hc3 _ rfl) hg (n := 0) (Nat.succ.inj hn) (by decide +kernel) (by simpa using hst) hd
theorem cl_19027 : clOK "SafeCodeLaw" 27 2 1 yX15_load 16 16 := by
  intro p l e R s m args below meth c T locs cells slots X hx hts hnw hown g Ar rest hg hn hst hd hr
  obtain ⟨b, As, ci, cell, rfl, h1, h2, hc1, hc2, hc3⟩ := hr
  obtain rfl : ci = 15 := by omega
  exact into_V X hx (C := RX15) hown (hts _ q2486) (hts _ q2487) (hts _ q2488) (hts _ q2489) ⟨by decide, by decide⟩ hc1 hc2 (hc3 _ rfl) hg (n := 0) (Nat.succ.inj hn) (by decide +kernel) (by simpa using hst) hd
theorem cl_19028 : clOK "SafeCodeLaw" 28 2 1 yX0_faultAt 1 1 := by
  intro p l e R s m args below meth c T locs cells slots X hx hts hnw hown g Ar rest hg hn hst hd hr
  obtain ⟨b, As, ci, cell, rfl, h1, h2, hc1, hc2, hc3⟩ := hr
  obtain rfl : ci = 0 := by omega
  exact into_V X hx (C := RX0) hown (hts _ q1875) (hts _ q1876) (hts _ q1877) (hts _ q1878) ⟨by decide, by decide⟩ hc1 hc2 (hc3 _ rfl) hg (n := 0) (Nat.succ.inj hn) (by decide +kernel) (by simpa using hst) hd
theorem cl_19031 : clOK "SafeCodeLaw" 31 2 1 yX15_faultAt 16 16 := by
  intro p l e R s m args below meth c T locs cells slots X hx hts hnw hown g Ar rest hg hn hst hd hr
  obtain ⟨b, As, ci, cell, rfl, h1, h2, hc1, hc2, hc3⟩ := hr
  obtain rfl : ci = 15 := by omega
  exact into_V X hx (C := RX15) hown (hts _ q2980) (hts _ q2981) (hts _ q2982) (hts _ q2983) ⟨by decide, by decide⟩ hc1 hc2 (hc3 _ rfl) hg (n := 0) (Nat.succ.inj hn) (by decide +kernel) (by simpa using hst) hd
theorem cl_19032 : clOK "SafeCodeLaw" 32 2 2 yX0_size 1 1 := by
  intro p l e R s m args below meth c T locs cells slots X hx hts hnw hown g Ar rest hg hn hst hd hr
  obtain ⟨b, As, ci, cell, rfl, h1, h2, hc1, hc2, hc3⟩ := hr
  obtain rfl : ci = 0 := by omega
  exact into_V X hx (C := RX0) hown (hts _ q1879) (hts _ q1880) (hts _ q1881) (hts _ q1882) ⟨by decide, by decide⟩ hc1 hc2 (hc3 _ rfl) hg (n := 1) (Nat.succ.inj hn) (by decide +kernel) (by simpa using hst) hd
theorem cl_19036 : clOK "SafeCodeLaw" 36 2 2 yX15_size 16 16 := by
  intro p l e R s m args below meth c T locs cells slots X hx hts hnw hown g Ar rest hg hn hst hd hr
  obtain ⟨b, As, ci, cell, rfl, h1, h2, hc1, hc2, hc3⟩ := hr
  obtain rfl : ci = 15 := by omega
  exact into_V X hx (C := RX15) hown (hts _ q2984) (hts _ q2985) (hts _ q2986) (hts _ q2987) ⟨by decide, by decide⟩ hc1 hc2 (hc3 _ rfl) hg (n := 1) (Nat.succ.inj hn) (by decide +kernel) (by simpa using hst) hd
theorem cl_19037 : clOK "SafeCodeLaw" 37 2 2 yX0_errors 1 1 := by
  intro p l e R s m args below meth c T locs cells slots X hx hts hnw hown g Ar rest hg hn hst hd hr
  obtain ⟨b, As, ci, cell, rfl, h1, h2, hc1, hc2, hc3⟩ := hr
  obtain rfl : ci = 0 := by omega
  exact into_V X hx (C := RX0) hown (hts _ q1883) (hts _ q1884) (hts _ q1885) (hts _ q1886) ⟨by decide, by decide⟩ hc1 hc2 (hc3 _ rfl) hg (n := 1) (Nat.succ.inj hn) (by decide +kernel) (by simpa using hst) hd
theorem cl_19040 : clOK "SafeCodeLaw" 40 2 2 yX15_errors 16 16 := by
  intro p l e R s m args below meth c T locs cells slots X hx hts hnw hown g Ar rest hg hn hst hd hr
  obtain ⟨b, As, ci, cell, rfl, h1, h2, hc1, hc2, hc3⟩ := hr
  obtain rfl : ci = 15 := by omega
  exact into_V X hx (C := RX15) hown (hts _ q2988) (hts _ q2989) (hts _ q2990) (hts _ q2991) ⟨by decide, by decide⟩ hc1 hc2 (hc3 _ rfl) hg (n := 1) (Nat.succ.inj hn) (by decide +kernel) (by simpa using hst) hd
theorem cl_19041 : clOK "SafeCodeLaw" 41 2 2 yX0_escapes 1 1 := by
  intro p l e R s m args below meth c T locs cells slots X hx hts hnw hown g Ar rest hg hn hst hd hr
  obtain ⟨b, As, ci, cell, rfl, h1, h2, hc1, hc2, hc3⟩ := hr
  obtain rfl : ci = 0 := by omega
  exact into_V X hx (C := RX0) hown (hts _ q1895) (hts _ q1896) (hts _ q1897) (hts _ q1898) ⟨by decide, by decide⟩ hc1 hc2 (hc3 _ rfl) hg (n := 1) (Nat.succ.inj hn) (by decide +kernel) (by simpa using hst) hd
theorem cl_19045 : clOK "SafeCodeLaw" 45 2 2 yX15_escapes 16 16 := by
  intro p l e R s m args below meth c T locs cells slots X hx hts hnw hown g Ar rest hg hn hst hd hr
  obtain ⟨b, As, ci, cell, rfl, h1, h2, hc1, hc2, hc3⟩ := hr
  obtain rfl : ci = 15 := by omega
  exact into_V X hx (C := RX15) hown (hts _ q2996) (hts _ q2997) (hts _ q2998) (hts _ q2999) ⟨by decide, by decide⟩ hc1 hc2 (hc3 _ rfl) hg (n := 1) (Nat.succ.inj hn) (by decide +kernel) (by simpa using hst) hd
theorem cl_19046 : clOK "SafeCodeLaw" 46 2 1 yX0_ends 1 1 := by
  intro p l e R s m args below meth c T locs cells slots X hx hts hnw hown g Ar rest hg hn hst hd hr
  obtain ⟨b, As, ci, cell, rfl, h1, h2, hc1, hc2, hc3⟩ := hr
  obtain rfl : ci = 0 := by omega
  exact into_V X hx (C := RX0) hown (hts _ q1899) (hts _ q1900) (hts _ q1901) (hts _ q1902) ⟨by decide, by decide⟩ hc1 hc2 (hc3 _ rfl) hg (n := 0) (Nat.succ.inj hn) (by decide +kernel) (by simpa using hst) hd
theorem cl_19050 : clOK "SafeCodeLaw" 50 2 1 yX15_ends 16 16 := by
  intro p l e R s m args below meth c T locs cells slots X hx hts hnw hown g Ar rest hg hn hst hd hr
  obtain ⟨b, As, ci, cell, rfl, h1, h2, hc1, hc2, hc3⟩ := hr
  obtain rfl : ci = 15 := by omega
  exact into_V X hx (C := RX15) hown (hts _ q3000) (hts _ q3001) (hts _ q3002) (hts _ q3003) ⟨by decide, by decide⟩ hc1 hc2 (hc3 _ rfl) hg (n := 0) (Nat.succ.inj hn) (by decide +kernel) (by simpa using hst) hd
theorem cl_19051 : clOK "SafeCodeLaw" 51 2 3 yX0_kind 1 1 := by
  intro p l e R s m args below meth c T locs cells slots X hx hts hnw hown g Ar rest hg hn hst hd hr
  obtain ⟨b, As, ci, cell, rfl, h1, h2, hc1, hc2, hc3⟩ := hr
  obtain rfl : ci = 0 := by omega
  exact into_V X hx (C := RX0) hown (hts _ q1903) (hts _ q1904) (hts _ q1905) (hts _ q1906) ⟨by decide, by decide⟩ hc1 hc2 (hc3 _ rfl) hg (n := 2) (Nat.succ.inj hn) (by decide +kernel) (by simpa using hst) hd
theorem cl_19055 : clOK "SafeCodeLaw" 55 2 3 yX15_kind 16 16 := by
  intro p l e R s m args below meth c T locs cells slots X hx hts hnw hown g Ar rest hg hn hst hd hr
  obtain ⟨b, As, ci, cell, rfl, h1, h2, hc1, hc2, hc3⟩ := hr
  obtain rfl : ci = 15 := by omega
  exact into_V X hx (C := RX15) hown (hts _ q3004) (hts _ q3005) (hts _ q3006) (hts _ q3007) ⟨by decide, by decide⟩ hc1 hc2 (hc3 _ rfl) hg (n := 2) (Nat.succ.inj hn) (by decide +kernel) (by simpa using hst) hd
theorem cl_19056 : clOK "SafeCodeLaw" 56 2 3 yX0_low 1 1 := by
  intro p l e R s m args below meth c T locs cells slots X hx hts hnw hown g Ar rest hg hn hst hd hr
  obtain ⟨b, As, ci, cell, rfl, h1, h2, hc1, hc2, hc3⟩ := hr
  obtain rfl : ci = 0 := by omega
  exact into_V X hx (C := RX0) hown (hts _ q1911) (hts _ q1912) (hts _ q1913) (hts _ q1914) ⟨by decide, by decide⟩ hc1 hc2 (hc3 _ rfl) hg (n := 2) (Nat.succ.inj hn) (by decide +kernel) (by simpa using hst) hd
theorem cl_19059 : clOK "SafeCodeLaw" 59 2 3 yX15_low 16 16 := by
  intro p l e R s m args below meth c T locs cells slots X hx hts hnw hown g Ar rest hg hn hst hd hr
  obtain ⟨b, As, ci, cell, rfl, h1, h2, hc1, hc2, hc3⟩ := hr
  obtain rfl : ci = 15 := by omega
  exact into_V X hx (C := RX15) hown (hts _ q3012) (hts _ q3013) (hts _ q3014) (hts _ q3015) ⟨by decide, by decide⟩ hc1 hc2 (hc3 _ rfl) hg (n := 2) (Nat.succ.inj hn) (by decide +kernel) (by simpa using hst) hd
theorem cl_19060 : clOK "SafeCodeLaw" 60 2 3 yX0_high 1 1 := by
  intro p l e R s m args below meth c T locs cells slots X hx hts hnw hown g Ar rest hg hn hst hd hr
  obtain ⟨b, As, ci, cell, rfl, h1, h2, hc1, hc2, hc3⟩ := hr
  obtain rfl : ci = 0 := by omega
  exact into_V X hx (C := RX0) hown (hts _ q1916) (hts _ q1917) (hts _ q1918) (hts _ q1919) ⟨by decide, by decide⟩ hc1 hc2 (hc3 _ rfl) hg (n := 2) (Nat.succ.inj hn) (by decide +kernel) (by simpa using hst) hd
theorem cl_19063 : clOK "SafeCodeLaw" 63 2 3 yX15_high 16 16 := by
  intro p l e R s m args below meth c T locs cells slots X hx hts hnw hown g Ar rest hg hn hst hd hr
  obtain ⟨b, As, ci, cell, rfl, h1, h2, hc1, hc2, hc3⟩ := hr
  obtain rfl : ci = 15 := by omega
  exact into_V X hx (C := RX15) hown (hts _ q3017) (hts _ q3018) (hts _ q3019) (hts _ q3020) ⟨by decide, by decide⟩ hc1 hc2 (hc3 _ rfl) hg (n := 2) (Nat.succ.inj hn) (by decide +kernel) (by simpa using hst) hd
theorem cl_19064 : clOK "SafeCodeLaw" 64 2 3 yX0_sites 1 1 := by
  intro p l e R s m args below meth c T locs cells slots X hx hts hnw hown g Ar rest hg hn hst hd hr
  obtain ⟨b, As, ci, cell, rfl, h1, h2, hc1, hc2, hc3⟩ := hr
  obtain rfl : ci = 0 := by omega
  exact into_V X hx (C := RX0) hown (hts _ q1920) (hts _ q1921) (hts _ q1922) (hts _ q1923) ⟨by decide, by decide⟩ hc1 hc2 (hc3 _ rfl) hg (n := 2) (Nat.succ.inj hn) (by decide +kernel) (by simpa using hst) hd
theorem cl_19068 : clOK "SafeCodeLaw" 68 2 3 yX15_sites 16 16 := by
  intro p l e R s m args below meth c T locs cells slots X hx hts hnw hown g Ar rest hg hn hst hd hr
  obtain ⟨b, As, ci, cell, rfl, h1, h2, hc1, hc2, hc3⟩ := hr
  obtain rfl : ci = 15 := by omega
  exact into_V X hx (C := RX15) hown (hts _ q3021) (hts _ q3022) (hts _ q3023) (hts _ q3024) ⟨by decide, by decide⟩ hc1 hc2 (hc3 _ rfl) hg (n := 2) (Nat.succ.inj hn) (by decide +kernel) (by simpa using hst) hd
theorem cl_19069 : clOK "SafeCodeLaw" 69 2 4 yX0_fact 1 1 := by
  intro p l e R s m args below meth c T locs cells slots X hx hts hnw hown g Ar rest hg hn hst hd hr
  obtain ⟨b, As, ci, cell, rfl, h1, h2, hc1, hc2, hc3⟩ := hr
  obtain rfl : ci = 0 := by omega
  exact into_V X hx (C := RX0) hown (hts _ q1924) (hts _ q1925) (hts _ q1926) (hts _ q1927) ⟨by decide, by decide⟩ hc1 hc2 (hc3 _ rfl) hg (n := 3) (Nat.succ.inj hn) (by decide +kernel) (by simpa using hst) hd
theorem cl_19073 : clOK "SafeCodeLaw" 73 2 4 yX15_fact 16 16 := by
  intro p l e R s m args below meth c T locs cells slots X hx hts hnw hown g Ar rest hg hn hst hd hr
  obtain ⟨b, As, ci, cell, rfl, h1, h2, hc1, hc2, hc3⟩ := hr
  obtain rfl : ci = 15 := by omega
  exact into_V X hx (C := RX15) hown (hts _ q3025) (hts _ q3026) (hts _ q3027) (hts _ q3028) ⟨by decide, by decide⟩ hc1 hc2 (hc3 _ rfl) hg (n := 3) (Nat.succ.inj hn) (by decide +kernel) (by simpa using hst) hd
theorem cl_19074 : clOK "SafeCodeLaw" 74 2 3 yX0_lengths 1 1 := by
  intro p l e R s m args below meth c T locs cells slots X hx hts hnw hown g Ar rest hg hn hst hd hr
  obtain ⟨b, As, ci, cell, rfl, h1, h2, hc1, hc2, hc3⟩ := hr
  obtain rfl : ci = 0 := by omega
  exact into_V X hx (C := RX0) hown (hts _ q1928) (hts _ q1929) (hts _ q1930) (hts _ q1931) ⟨by decide, by decide⟩ hc1 hc2 (hc3 _ rfl) hg (n := 2) (Nat.succ.inj hn) (by decide +kernel) (by simpa using hst) hd
theorem cl_19077 : clOK "SafeCodeLaw" 77 2 3 yX15_lengths 16 16 := by
  intro p l e R s m args below meth c T locs cells slots X hx hts hnw hown g Ar rest hg hn hst hd hr
  obtain ⟨b, As, ci, cell, rfl, h1, h2, hc1, hc2, hc3⟩ := hr
  obtain rfl : ci = 15 := by omega
  exact into_V X hx (C := RX15) hown (hts _ q3029) (hts _ q3030) (hts _ q3031) (hts _ q3032) ⟨by decide, by decide⟩ hc1 hc2 (hc3 _ rfl) hg (n := 2) (Nat.succ.inj hn) (by decide +kernel) (by simpa using hst) hd
theorem cl_19078 : clOK "SafeCodeLaw" 78 2 2 yX0_input 1 1 := by
  intro p l e R s m args below meth c T locs cells slots X hx hts hnw hown g Ar rest hg hn hst hd hr
  obtain ⟨b, As, ci, cell, rfl, h1, h2, hc1, hc2, hc3⟩ := hr
  obtain rfl : ci = 0 := by omega
  exact into_V X hx (C := RX0) hown (hts _ q1932) (hts _ q1933) (hts _ q1934) (hts _ q1935) ⟨by decide, by decide⟩ hc1 hc2 (hc3 _ rfl) hg (n := 1) (Nat.succ.inj hn) (by decide +kernel) (by simpa using hst) hd
theorem cl_19081 : clOK "SafeCodeLaw" 81 2 2 yX15_input 16 16 := by
  intro p l e R s m args below meth c T locs cells slots X hx hts hnw hown g Ar rest hg hn hst hd hr
  obtain ⟨b, As, ci, cell, rfl, h1, h2, hc1, hc2, hc3⟩ := hr
  obtain rfl : ci = 15 := by omega
  exact into_V X hx (C := RX15) hown (hts _ q3033) (hts _ q3034) (hts _ q3035) (hts _ q3036) ⟨by decide, by decide⟩ hc1 hc2 (hc3 _ rfl) hg (n := 1) (Nat.succ.inj hn) (by decide +kernel) (by simpa using hst) hd
theorem cl_19082 : clOK "SafeCodeLaw" 82 2 2 yX0_run 1 1 := by
  intro p l e R s m args below meth c T locs cells slots X hx hts hnw hown g Ar rest hg hn hst hd hr
  obtain ⟨b, As, ci, cell, rfl, h1, h2, hc1, hc2, hc3⟩ := hr
  obtain rfl : ci = 0 := by omega
  exact into_V X hx (C := RX0) hown (hts _ q1936) (hts _ q1937) (hts _ q1938) (hts _ q1939) ⟨by decide, by decide⟩ hc1 hc2 (hc3 _ rfl) hg (n := 1) (Nat.succ.inj hn) (by decide +kernel) (by simpa using hst) hd
theorem cl_19085 : clOK "SafeCodeLaw" 85 2 2 yX15_run 16 16 := by
  intro p l e R s m args below meth c T locs cells slots X hx hts hnw hown g Ar rest hg hn hst hd hr
  obtain ⟨b, As, ci, cell, rfl, h1, h2, hc1, hc2, hc3⟩ := hr
  obtain rfl : ci = 15 := by omega
  exact into_V X hx (C := RX15) hown (hts _ q3037) (hts _ q3038) (hts _ q3039) (hts _ q3040) ⟨by decide, by decide⟩ hc1 hc2 (hc3 _ rfl) hg (n := 1) (Nat.succ.inj hn) (by decide +kernel) (by simpa using hst) hd
theorem cl_19086 : clOK "SafeCodeLaw" 86 2 1 yX0_steps 1 1 := by
  intro p l e R s m args below meth c T locs cells slots X hx hts hnw hown g Ar rest hg hn hst hd hr
  obtain ⟨b, As, ci, cell, rfl, h1, h2, hc1, hc2, hc3⟩ := hr
  obtain rfl : ci = 0 := by omega
  exact into_V X hx (C := RX0) hown (hts _ q2038) (hts _ q2039) (hts _ q2040) (hts _ q2041) ⟨by decide, by decide⟩ hc1 hc2 (hc3 _ rfl) hg (n := 0) (Nat.succ.inj hn) (by decide +kernel) (by simpa using hst) hd
theorem cl_19089 : clOK "SafeCodeLaw" 89 2 1 yX15_steps 16 16 := by
  intro p l e R s m args below meth c T locs cells slots X hx hts hnw hown g Ar rest hg hn hst hd hr
  obtain ⟨b, As, ci, cell, rfl, h1, h2, hc1, hc2, hc3⟩ := hr
  obtain rfl : ci = 15 := by omega
  exact into_V X hx (C := RX15) hown (hts _ q3132) (hts _ q3133) (hts _ q3134) (hts _ q3135) ⟨by decide, by decide⟩ hc1 hc2 (hc3 _ rfl) hg (n := 0) (Nat.succ.inj hn) (by decide +kernel) (by simpa using hst) hd
theorem cl_19090 : clOK "SafeCodeLaw" 90 2 1 yX0_place 1 1 := by
  intro p l e R s m args below meth c T locs cells slots X hx hts hnw hown g Ar rest hg hn hst hd hr
  obtain ⟨b, As, ci, cell, rfl, h1, h2, hc1, hc2, hc3⟩ := hr
  obtain rfl : ci = 0 := by omega
  exact into_V X hx (C := RX0) hown (hts _ q2042) (hts _ q2043) (hts _ q2044) (hts _ q2045) ⟨by decide, by decide⟩ hc1 hc2 (hc3 _ rfl) hg (n := 0) (Nat.succ.inj hn) (by decide +kernel) (by simpa using hst) hd
theorem cl_19093 : clOK "SafeCodeLaw" 93 2 1 yX15_place 16 16 := by
  intro p l e R s m args below meth c T locs cells slots X hx hts hnw hown g Ar rest hg hn hst hd hr
  obtain ⟨b, As, ci, cell, rfl, h1, h2, hc1, hc2, hc3⟩ := hr
  obtain rfl : ci = 15 := by omega
  exact into_V X hx (C := RX15) hown (hts _ q3136) (hts _ q3137) (hts _ q3138) (hts _ q3139) ⟨by decide, by decide⟩ hc1 hc2 (hc3 _ rfl) hg (n := 0) (Nat.succ.inj hn) (by decide +kernel) (by simpa using hst) hd
theorem cl_19094 : clOK "SafeCodeLaw" 94 2 1 yX0_thrown 1 1 := by
  intro p l e R s m args below meth c T locs cells slots X hx hts hnw hown g Ar rest hg hn hst hd hr
  obtain ⟨b, As, ci, cell, rfl, h1, h2, hc1, hc2, hc3⟩ := hr
  obtain rfl : ci = 0 := by omega
  exact into_V X hx (C := RX0) hown (hts _ q2046) (hts _ q2047) (hts _ q2048) (hts _ q2049) ⟨by decide, by decide⟩ hc1 hc2 (hc3 _ rfl) hg (n := 0) (Nat.succ.inj hn) (by decide +kernel) (by simpa using hst) hd
theorem cl_19097 : clOK "SafeCodeLaw" 97 2 1 yX15_thrown 16 16 := by
  intro p l e R s m args below meth c T locs cells slots X hx hts hnw hown g Ar rest hg hn hst hd hr
  obtain ⟨b, As, ci, cell, rfl, h1, h2, hc1, hc2, hc3⟩ := hr
  obtain rfl : ci = 15 := by omega
  exact into_V X hx (C := RX15) hown (hts _ q3140) (hts _ q3141) (hts _ q3142) (hts _ q3143) ⟨by decide, by decide⟩ hc1 hc2 (hc3 _ rfl) hg (n := 0) (Nat.succ.inj hn) (by decide +kernel) (by simpa using hst) hd
theorem cl_19098 : clOK "SafeCodeLaw" 98 2 1 yX0_written 1 1 := by
  intro p l e R s m args below meth c T locs cells slots X hx hts hnw hown g Ar rest hg hn hst hd hr
  obtain ⟨b, As, ci, cell, rfl, h1, h2, hc1, hc2, hc3⟩ := hr
  obtain rfl : ci = 0 := by omega
  exact into_V X hx (C := RX0) hown (hts _ q2050) (hts _ q2051) (hts _ q2052) (hts _ q2053) ⟨by decide, by decide⟩ hc1 hc2 (hc3 _ rfl) hg (n := 0) (Nat.succ.inj hn) (by decide +kernel) (by simpa using hst) hd
theorem cl_19101 : clOK "SafeCodeLaw" 101 2 1 yX15_written 16 16 := by
  intro p l e R s m args below meth c T locs cells slots X hx hts hnw hown g Ar rest hg hn hst hd hr
  obtain ⟨b, As, ci, cell, rfl, h1, h2, hc1, hc2, hc3⟩ := hr
  obtain rfl : ci = 15 := by omega
  exact into_V X hx (C := RX15) hown (hts _ q3144) (hts _ q3145) (hts _ q3146) (hts _ q3147) ⟨by decide, by decide⟩ hc1 hc2 (hc3 _ rfl) hg (n := 0) (Nat.succ.inj hn) (by decide +kernel) (by simpa using hst) hd
theorem cl_19102 : clOK "SafeCodeLaw" 102 2 2 yX0_out 1 1 := by
  intro p l e R s m args below meth c T locs cells slots X hx hts hnw hown g Ar rest hg hn hst hd hr
  obtain ⟨b, As, ci, cell, rfl, h1, h2, hc1, hc2, hc3⟩ := hr
  obtain rfl : ci = 0 := by omega
  exact into_V X hx (C := RX0) hown (hts _ q2054) (hts _ q2055) (hts _ q2056) (hts _ q2057) ⟨by decide, by decide⟩ hc1 hc2 (hc3 _ rfl) hg (n := 1) (Nat.succ.inj hn) (by decide +kernel) (by simpa using hst) hd
theorem cl_19105 : clOK "SafeCodeLaw" 105 2 2 yX15_out 16 16 := by
  intro p l e R s m args below meth c T locs cells slots X hx hts hnw hown g Ar rest hg hn hst hd hr
  obtain ⟨b, As, ci, cell, rfl, h1, h2, hc1, hc2, hc3⟩ := hr
  obtain rfl : ci = 15 := by omega
  exact into_V X hx (C := RX15) hown (hts _ q3148) (hts _ q3149) (hts _ q3150) (hts _ q3151) ⟨by decide, by decide⟩ hc1 hc2 (hc3 _ rfl) hg (n := 1) (Nat.succ.inj hn) (by decide +kernel) (by simpa using hst) hd
theorem cl_19106 : clOK "SafeCodeLaw" 106 2 1 yX0_strays 1 1 := by
  intro p l e R s m args below meth c T locs cells slots X hx hts hnw hown g Ar rest hg hn hst hd hr
  obtain ⟨b, As, ci, cell, rfl, h1, h2, hc1, hc2, hc3⟩ := hr
  obtain rfl : ci = 0 := by omega
  exact into_V X hx (C := RX0) hown (hts _ q2059) (hts _ q2060) (hts _ q2061) (hts _ q2062) ⟨by decide, by decide⟩ hc1 hc2 (hc3 _ rfl) hg (n := 0) (Nat.succ.inj hn) (by decide +kernel) (by simpa using hst) hd
theorem cl_19109 : clOK "SafeCodeLaw" 109 2 1 yX15_strays 16 16 := by
  intro p l e R s m args below meth c T locs cells slots X hx hts hnw hown g Ar rest hg hn hst hd hr
  obtain ⟨b, As, ci, cell, rfl, h1, h2, hc1, hc2, hc3⟩ := hr
  obtain rfl : ci = 15 := by omega
  exact into_V X hx (C := RX15) hown (hts _ q3152) (hts _ q3153) (hts _ q3154) (hts _ q3155) ⟨by decide, by decide⟩ hc1 hc2 (hc3 _ rfl) hg (n := 0) (Nat.succ.inj hn) (by decide +kernel) (by simpa using hst) hd
def clP (q : Nat) (x : Nat × Nat × Nat × Nat × Nat) : Prop := x.2.2.1 < 600 → clOK (owS (q / 1000)) (q % 1000) x.1 x.2.1 (yn x.2.2.1) x.2.2.2.1 x.2.2.2.2
theorem cl_all {q : Nat} {x : Nat × Nat × Nat × Nat × Nat} : rcl q = some x → clP q x := by
  unfold rcl
  exact tl_c (tl_c (tl_c (tl_c (tl_c (tl_c (tl_c (tl_c (tl_l (P := clP) (K := 1001) (x := (1, 1, 600, 1, 18)) (fun h => absurd h (by decide))) (tl_c (tl_l (P := clP) (K := 1009) (x := (1, 1, 26, 2, 2)) (fun _ => cl_1009)) (tl_l (P := clP) (K := 1018) (x := (1, 2, 29, 3, 3)) (fun _ => cl_1018)))) (tl_c (tl_c (tl_l (P := clP) (K := 1027) (x := (1, 3, 59, 5, 5)) (fun _ => cl_1027)) (tl_l (P := clP) (K := 1036) (x := (1, 4, 67, 6, 6)) (fun _ => cl_1036))) (tl_c (tl_l (P := clP) (K := 1045) (x := (1, 2, 93, 7, 7)) (fun _ => cl_1045)) (tl_l (P := clP) (K := 1052) (x := (1, 1, 112, 8, 8)) (fun _ => cl_1052))))) (tl_c (tl_c (tl_l (P := clP) (K := 1059) (x := (1, 1, 189, 14, 14)) (fun _ => cl_1059)) (tl_c (tl_l (P := clP) (K := 1066) (x := (1, 1, 214, 15, 15)) (fun _ => cl_1066)) (tl_l (P := clP) (K := 1085) (x := (2, 1, 27, 2, 2)) (fun _ => cl_1085)))) (tl_c (tl_c (tl_l (P := clP) (K := 1096) (x := (2, 2, 2, 1, 1)) (fun _ => cl_1096)) (tl_l (P := clP) (K := 1103) (x := (2, 3, 30, 3, 3)) (fun _ => cl_1103))) (tl_c (tl_l (P := clP) (K := 1107) (x := (2, 1, 60, 5, 5)) (fun _ => cl_1107)) (tl_l (P := clP) (K := 1110) (x := (2, 2, 68, 6, 6)) (fun _ => cl_1110)))))) (tl_c (tl_c (tl_c (tl_l (P := clP) (K := 1114) (x := (2, 2, 94, 7, 7)) (fun _ => cl_1114)) (tl_c (tl_l (P := clP) (K := 1126) (x := (2, 2, 113, 8, 8)) (fun _ => cl_1126)) (tl_l (P := clP) (K := 1151) (x := (2, 2, 8, 1, 1)) (fun _ => cl_1151)))) (tl_c (tl_c (tl_l (P := clP) (K := 1155) (x := (2, 2, 159, 8, 8)) (fun _ => cl_1155)) (tl_l (P := clP) (K := 1176) (x := (2, 3, 12, 1, 1)) (fun _ => cl_1176))) (tl_c (tl_l (P := clP) (K := 1189) (x := (2, 3, 11, 1, 1)) (fun _ => cl_1189)) (tl_l (P := clP) (K := 1225) (x := (2, 5, 190, 14, 14)) (fun _ => cl_1225))))) (tl_c (tl_c (tl_c (tl_l (P := clP) (K := 1244) (x := (0, 2, 394, 20, 20)) (fun _ => cl_1244)) (tl_l (P := clP) (K := 2001) (x := (1, 1, 600, 1, 18)) (fun h => absurd h (by decide)))) (tl_c (tl_l (P := clP) (K := 2009) (x := (1, 1, 604, 18, 18)) (fun h => absurd h (by decide))) (tl_l (P := clP) (K := 3003) (x := (1, 1, 600, 1, 18)) (fun h => absurd h (by decide))))) (tl_c (tl_c (tl_l (P := clP) (K := 3011) (x := (1, 1, 56, 4, 4)) (fun _ => cl_3011)) (tl_l (P := clP) (K := 3033) (x := (2, 1, 57, 4, 4)) (fun _ => cl_3033))) (tl_c (tl_l (P := clP) (K := 3036) (x := (0, 1, 31, 3, 3)) (fun _ => cl_3036)) (tl_l (P := clP) (K := 3040) (x := (2, 1, 32, 3, 3)) (fun _ => cl_3040))))))) (tl_c (tl_c (tl_c (tl_c (tl_l (P := clP) (K := 3043) (x := (2, 3, 28, 2, 2)) (fun _ => cl_3043)) (tl_c (tl_l (P := clP) (K := 3049) (x := (2, 3, 33, 3, 3)) (fun _ => cl_3049)) (tl_l (P := clP) (K := 3053) (x := (0, 1, 34, 3, 3)) (fun _ => cl_3053)))) (tl_c (tl_c (tl_l (P := clP) (K := 3056) (x := (2, 2, 58, 4, 4)) (fun _ => cl_3056)) (tl_l (P := clP) (K := 3060) (x := (0, 1, 35, 3, 3)) (fun _ => cl_3060))) (tl_c (tl_l (P := clP) (K := 3063) (x := (2, 3, 36, 3, 3)) (fun _ => cl_3063)) (tl_l (P := clP) (K := 3070) (x := (2, 1, 601, 60, 60)) (fun h => absurd h (by decide)))))) (tl_c (tl_c (tl_l (P := clP) (K := 3075) (x := (2, 6, 38, 3, 3)) (fun _ => cl_3075)) (tl_c (tl_l (P := clP) (K := 3079) (x := (2, 2, 602, 60, 60)) (fun h => absurd h (by decide))) (tl_l (P := clP) (K := 3083) (x := (2, 4, 49, 3, 3)) (fun _ => cl_3083)))) (tl_c (tl_c (tl_l (P := clP) (K := 3089) (x := (2, 5, 40, 3, 3)) (fun _ => cl_3089)) (tl_l (P := clP) (K := 3093) (x := (2, 2, 45, 3, 3)) (fun _ => cl_3093))) (tl_c (tl_l (P := clP) (K := 3096) (x := (2, 2, 44, 3, 3)) (fun _ => cl_3096)) (tl_l (P := clP) (K := 3102) (x := (2, 2, 43, 3, 3)) (fun _ => cl_3102)))))) (tl_c (tl_c (tl_c (tl_l (P := clP) (K := 3105) (x := (2, 2, 47, 3, 3)) (fun _ => cl_3105)) (tl_c (tl_l (P := clP) (K := 3117) (x := (2, 5, 52, 3, 3)) (fun _ => cl_3117)) (tl_l (P := clP) (K := 4001) (x := (1, 1, 600, 1, 18)) (fun h => absurd h (by decide))))) (tl_c (tl_c (tl_l (P := clP) (K := 4017) (x := (0, 2, 603, 0, 0)) (fun h => absurd h (by decide))) (tl_l (P := clP) (K := 5003) (x := (1, 1, 600, 1, 18)) (fun h => absurd h (by decide)))) (tl_c (tl_l (P := clP) (K := 5011) (x := (1, 1, 56, 4, 4)) (fun _ => cl_5011)) (tl_l (P := clP) (K := 5057) (x := (2, 1, 32, 3, 3)) (fun _ => cl_5057))))) (tl_c (tl_c (tl_c (tl_l (P := clP) (K := 5063) (x := (2, 3, 28, 2, 2)) (fun _ => cl_5063)) (tl_l (P := clP) (K := 5068) (x := (2, 1, 57, 4, 4)) (fun _ => cl_5068))) (tl_c (tl_l (P := clP) (K := 5071) (x := (2, 1, 61, 5, 5)) (fun _ => cl_5071)) (tl_l (P := clP) (K := 5074) (x := (2, 3, 37, 3, 3)) (fun _ => cl_5074)))) (tl_c (tl_c (tl_l (P := clP) (K := 5078) (x := (2, 2, 62, 5, 5)) (fun _ => cl_5078)) (tl_l (P := clP) (K := 5082) (x := (2, 2, 39, 3, 3)) (fun _ => cl_5082))) (tl_c (tl_l (P := clP) (K := 5086) (x := (2, 2, 58, 4, 4)) (fun _ => cl_5086)) (tl_l (P := clP) (K := 5096) (x := (2, 1, 63, 5, 5)) (fun _ => cl_5096)))))))) (tl_c (tl_c (tl_c (tl_c (tl_c (tl_l (P := clP) (K := 5107) (x := (2, 2, 41, 3, 3)) (fun _ => cl_5107)) (tl_c (tl_l (P := clP) (K := 5110) (x := (2, 2, 42, 3, 3)) (fun _ => cl_5110)) (tl_l (P := clP) (K := 5113) (x := (2, 1, 64, 5, 5)) (fun _ => cl_5113)))) (tl_c (tl_c (tl_l (P := clP) (K := 5122) (x := (2, 2, 46, 3, 3)) (fun _ => cl_5122)) (tl_l (P := clP) (K := 5125) (x := (2, 1, 65, 5, 5)) (fun _ => cl_5125))) (tl_c (tl_l (P := clP) (K := 5134) (x := (2, 3, 48, 3, 3)) (fun _ => cl_5134)) (tl_l (P := clP) (K := 5138) (x := (2, 2, 66, 5, 5)) (fun _ => cl_5138))))) (tl_c (tl_c (tl_l (P := clP) (K := 5143) (x := (2, 2, 50, 3, 3)) (fun _ => cl_5143)) (tl_c (tl_l (P := clP) (K := 6003) (x := (1, 1, 600, 1, 18)) (fun h => absurd h (by decide))) (tl_l (P := clP) (K := 6023) (x := (1, 1, 56, 4, 4)) (fun _ => cl_6023)))) (tl_c (tl_c (tl_l (P := clP) (K := 6043) (x := (2, 3, 28, 2, 2)) (fun _ => cl_6043)) (tl_l (P := clP) (K := 6053) (x := (2, 1, 215, 15, 15)) (fun _ => cl_6053))) (tl_c (tl_l (P := clP) (K := 6067) (x := (2, 2, 69, 6, 6)) (fun _ => cl_6067)) (tl_l (P := clP) (K := 6077) (x := (2, 3, 73, 6, 6)) (fun _ => cl_6077)))))) (tl_c (tl_c (tl_c (tl_l (P := clP) (K := 6084) (x := (2, 2, 84, 6, 6)) (fun _ => cl_6084)) (tl_c (tl_l (P := clP) (K := 6087) (x := (2, 1, 92, 6, 6)) (fun _ => cl_6087)) (tl_l (P := clP) (K := 6090) (x := (2, 3, 51, 3, 3)) (fun _ => cl_6090)))) (tl_c (tl_c (tl_l (P := clP) (K := 6104) (x := (2, 5, 52, 3, 3)) (fun _ => cl_6104)) (tl_l (P := clP) (K := 6108) (x := (2, 3, 71, 6, 6)) (fun _ => cl_6108))) (tl_c (tl_l (P := clP) (K := 6111) (x := (2, 2, 70, 6, 6)) (fun _ => cl_6111)) (tl_l (P := clP) (K := 6115) (x := (2, 3, 72, 6, 6)) (fun _ => cl_6115))))) (tl_c (tl_c (tl_c (tl_l (P := clP) (K := 6122) (x := (2, 2, 43, 3, 3)) (fun _ => cl_6122)) (tl_l (P := clP) (K := 6126) (x := (2, 2, 53, 3, 3)) (fun _ => cl_6126))) (tl_c (tl_l (P := clP) (K := 6129) (x := (2, 2, 44, 3, 3)) (fun _ => cl_6129)) (tl_l (P := clP) (K := 6132) (x := (2, 2, 77, 6, 6)) (fun _ => cl_6132)))) (tl_c (tl_c (tl_l (P := clP) (K := 6144) (x := (2, 4, 81, 6, 6)) (fun _ => cl_6144)) (tl_l (P := clP) (K := 6154) (x := (2, 3, 74, 6, 6)) (fun _ => cl_6154))) (tl_c (tl_l (P := clP) (K := 6157) (x := (2, 4, 79, 6, 6)) (fun _ => cl_6157)) (tl_l (P := clP) (K := 6161) (x := (2, 3, 216, 15, 15)) (fun _ => cl_6161))))))) (tl_c (tl_c (tl_c (tl_c (tl_l (P := clP) (K := 6165) (x := (2, 4, 75, 6, 6)) (fun _ => cl_6165)) (tl_c (tl_l (P := clP) (K := 6171) (x := (2, 2, 76, 6, 6)) (fun _ => cl_6171)) (tl_l (P := clP) (K := 6177) (x := (2, 2, 78, 6, 6)) (fun _ => cl_6177)))) (tl_c (tl_c (tl_l (P := clP) (K := 6180) (x := (2, 4, 80, 6, 6)) (fun _ => cl_6180)) (tl_l (P := clP) (K := 6187) (x := (2, 3, 82, 6, 6)) (fun _ => cl_6187))) (tl_c (tl_l (P := clP) (K := 6196) (x := (0, 1, 83, 6, 6)) (fun _ => cl_6196)) (tl_l (P := clP) (K := 6204) (x := (2, 3, 37, 3, 3)) (fun _ => cl_6204))))) (tl_c (tl_c (tl_l (P := clP) (K := 6208) (x := (2, 2, 55, 3, 3)) (fun _ => cl_6208)) (tl_c (tl_l (P := clP) (K := 6220) (x := (2, 3, 54, 3, 3)) (fun _ => cl_6220)) (tl_l (P := clP) (K := 6226) (x := (2, 1, 57, 4, 4)) (fun _ => cl_6226)))) (tl_c (tl_c (tl_l (P := clP) (K := 6234) (x := (2, 2, 58, 4, 4)) (fun _ => cl_6234)) (tl_l (P := clP) (K := 6237) (x := (2, 2, 85, 6, 6)) (fun _ => cl_6237))) (tl_c (tl_l (P := clP) (K := 6240) (x := (2, 3, 86, 6, 6)) (fun _ => cl_6240)) (tl_l (P := clP) (K := 6246) (x := (2, 3, 87, 6, 6)) (fun _ => cl_6246)))))) (tl_c (tl_c (tl_c (tl_l (P := clP) (K := 6252) (x := (2, 5, 89, 6, 6)) (fun _ => cl_6252)) (tl_c (tl_l (P := clP) (K := 6259) (x := (2, 2, 217, 15, 15)) (fun _ => cl_6259)) (tl_l (P := clP) (K := 6268) (x := (2, 2, 88, 6, 6)) (fun _ => cl_6268)))) (tl_c (tl_c (tl_l (P := clP) (K := 6300) (x := (2, 5, 90, 6, 6)) (fun _ => cl_6300)) (tl_l (P := clP) (K := 6306) (x := (2, 3, 91, 6, 6)) (fun _ => cl_6306))) (tl_c (tl_l (P := clP) (K := 6309) (x := (2, 2, 50, 3, 3)) (fun _ => cl_6309)) (tl_l (P := clP) (K := 6318) (x := (2, 1, 32, 3, 3)) (fun _ => cl_6318))))) (tl_c (tl_c (tl_c (tl_l (P := clP) (K := 7003) (x := (1, 1, 600, 1, 18)) (fun h => absurd h (by decide))) (tl_l (P := clP) (K := 7048) (x := (2, 4, 95, 7, 7)) (fun _ => cl_7048))) (tl_c (tl_l (P := clP) (K := 7052) (x := (2, 4, 99, 7, 7)) (fun _ => cl_7052)) (tl_l (P := clP) (K := 7061) (x := (2, 3, 96, 7, 7)) (fun _ => cl_7061)))) (tl_c (tl_c (tl_l (P := clP) (K := 7069) (x := (2, 3, 97, 7, 7)) (fun _ => cl_7069)) (tl_l (P := clP) (K := 7073) (x := (2, 3, 98, 7, 7)) (fun _ => cl_7073))) (tl_c (tl_l (P := clP) (K := 7082) (x := (2, 3, 28, 2, 2)) (fun _ => cl_7082)) (tl_l (P := clP) (K := 7094) (x := (2, 2, 218, 15, 15)) (fun _ => cl_7094))))))))) (tl_c (tl_c (tl_c (tl_c (tl_c (tl_c (tl_l (P := clP) (K := 7098) (x := (2, 2, 219, 15, 15)) (fun _ => cl_7098)) (tl_c (tl_l (P := clP) (K := 7101) (x := (2, 2, 217, 15, 15)) (fun _ => cl_7101)) (tl_l (P := clP) (K := 7105) (x := (2, 2, 220, 15, 15)) (fun _ => cl_7105)))) (tl_c (tl_c (tl_l (P := clP) (K := 7118) (x := (2, 2, 100, 7, 7)) (fun _ => cl_7118)) (tl_l (P := clP) (K := 7122) (x := (2, 3, 101, 7, 7)) (fun _ => cl_7122))) (tl_c (tl_l (P := clP) (K := 7125) (x := (2, 2, 102, 7, 7)) (fun _ => cl_7125)) (tl_l (P := clP) (K := 7131) (x := (2, 2, 104, 7, 7)) (fun _ => cl_7131))))) (tl_c (tl_c (tl_l (P := clP) (K := 7134) (x := (2, 2, 106, 7, 7)) (fun _ => cl_7134)) (tl_c (tl_l (P := clP) (K := 7140) (x := (2, 2, 103, 7, 7)) (fun _ => cl_7140)) (tl_l (P := clP) (K := 7143) (x := (2, 3, 221, 15, 15)) (fun _ => cl_7143)))) (tl_c (tl_c (tl_l (P := clP) (K := 7149) (x := (0, 1, 105, 7, 7)) (fun _ => cl_7149)) (tl_l (P := clP) (K := 7158) (x := (0, 1, 224, 15, 15)) (fun _ => cl_7158))) (tl_c (tl_l (P := clP) (K := 7161) (x := (0, 1, 225, 15, 15)) (fun _ => cl_7161)) (tl_l (P := clP) (K := 7164) (x := (2, 2, 107, 7, 7)) (fun _ => cl_7164)))))) (tl_c (tl_c (tl_c (tl_l (P := clP) (K := 7166) (x := (0, 1, 108, 7, 7)) (fun _ => cl_7166)) (tl_c (tl_l (P := clP) (K := 7169) (x := (0, 1, 109, 7, 7)) (fun _ => cl_7169)) (tl_l (P := clP) (K := 7172) (x := (2, 3, 222, 15, 15)) (fun _ => cl_7172)))) (tl_c (tl_c (tl_l (P := clP) (K := 7178) (x := (2, 2, 110, 7, 7)) (fun _ => cl_7178)) (tl_l (P := clP) (K := 7181) (x := (2, 2, 111, 7, 7)) (fun _ => cl_7181))) (tl_c (tl_l (P := clP) (K := 8003) (x := (1, 1, 600, 1, 18)) (fun h => absurd h (by decide))) (tl_l (P := clP) (K := 8011) (x := (1, 1, 160, 9, 9)) (fun _ => cl_8011))))) (tl_c (tl_c (tl_c (tl_l (P := clP) (K := 8020) (x := (1, 2, 166, 10, 10)) (fun _ => cl_8020)) (tl_l (P := clP) (K := 8029) (x := (1, 2, 181, 12, 12)) (fun _ => cl_8029))) (tl_c (tl_l (P := clP) (K := 8050) (x := (1, 2, 186, 13, 13)) (fun _ => cl_8050)) (tl_l (P := clP) (K := 8095) (x := (2, 1, 114, 8, 8)) (fun _ => cl_8095)))) (tl_c (tl_c (tl_l (P := clP) (K := 8104) (x := (2, 2, 116, 8, 8)) (fun _ => cl_8104)) (tl_l (P := clP) (K := 8113) (x := (2, 2, 119, 8, 8)) (fun _ => cl_8113))) (tl_c (tl_l (P := clP) (K := 8116) (x := (2, 1, 161, 9, 9)) (fun _ => cl_8116)) (tl_l (P := clP) (K := 8126) (x := (2, 2, 163, 9, 9)) (fun _ => cl_8126))))))) (tl_c (tl_c (tl_c (tl_c (tl_l (P := clP) (K := 8129) (x := (2, 1, 187, 13, 13)) (fun _ => cl_8129)) (tl_c (tl_l (P := clP) (K := 8135) (x := (2, 2, 115, 8, 8)) (fun _ => cl_8135)) (tl_l (P := clP) (K := 8145) (x := (2, 3, 222, 15, 15)) (fun _ => cl_8145)))) (tl_c (tl_c (tl_l (P := clP) (K := 8149) (x := (2, 2, 118, 8, 8)) (fun _ => cl_8149)) (tl_l (P := clP) (K := 8152) (x := (2, 4, 183, 12, 12)) (fun _ => cl_8152))) (tl_c (tl_l (P := clP) (K := 8156) (x := (2, 4, 184, 12, 12)) (fun _ => cl_8156)) (tl_l (P := clP) (K := 8160) (x := (2, 2, 176, 12, 12)) (fun _ => cl_8160))))) (tl_c (tl_c (tl_l (P := clP) (K := 8163) (x := (2, 2, 182, 12, 12)) (fun _ => cl_8163)) (tl_c (tl_l (P := clP) (K := 8168) (x := (2, 4, 177, 12, 12)) (fun _ => cl_8168)) (tl_l (P := clP) (K := 8174) (x := (2, 4, 117, 8, 8)) (fun _ => cl_8174)))) (tl_c (tl_c (tl_l (P := clP) (K := 8181) (x := (2, 1, 134, 8, 8)) (fun _ => cl_8181)) (tl_l (P := clP) (K := 8185) (x := (2, 4, 179, 12, 12)) (fun _ => cl_8185))) (tl_c (tl_l (P := clP) (K := 8189) (x := (2, 3, 180, 12, 12)) (fun _ => cl_8189)) (tl_l (P := clP) (K := 8207) (x := (2, 3, 120, 8, 8)) (fun _ => cl_8207)))))) (tl_c (tl_c (tl_c (tl_l (P := clP) (K := 8210) (x := (2, 2, 132, 8, 8)) (fun _ => cl_8210)) (tl_c (tl_l (P := clP) (K := 8214) (x := (2, 3, 136, 8, 8)) (fun _ => cl_8214)) (tl_l (P := clP) (K := 8217) (x := (2, 3, 152, 8, 8)) (fun _ => cl_8217)))) (tl_c (tl_c (tl_l (P := clP) (K := 8220) (x := (2, 3, 154, 8, 8)) (fun _ => cl_8220)) (tl_l (P := clP) (K := 8223) (x := (2, 2, 158, 8, 8)) (fun _ => cl_8223))) (tl_c (tl_l (P := clP) (K := 8226) (x := (2, 2, 217, 15, 15)) (fun _ => cl_8226)) (tl_l (P := clP) (K := 8249) (x := (2, 3, 139, 8, 8)) (fun _ => cl_8249))))) (tl_c (tl_c (tl_c (tl_l (P := clP) (K := 8256) (x := (2, 3, 133, 8, 8)) (fun _ => cl_8256)) (tl_l (P := clP) (K := 8259) (x := (2, 2, 140, 8, 8)) (fun _ => cl_8259))) (tl_c (tl_l (P := clP) (K := 8268) (x := (2, 1, 121, 8, 8)) (fun _ => cl_8268)) (tl_l (P := clP) (K := 8271) (x := (2, 3, 185, 12, 12)) (fun _ => cl_8271)))) (tl_c (tl_c (tl_l (P := clP) (K := 8274) (x := (2, 3, 155, 8, 8)) (fun _ => cl_8274)) (tl_l (P := clP) (K := 8277) (x := (2, 2, 156, 8, 8)) (fun _ => cl_8277))) (tl_c (tl_l (P := clP) (K := 8280) (x := (2, 3, 157, 8, 8)) (fun _ => cl_8280)) (tl_l (P := clP) (K := 8289) (x := (2, 6, 169, 10, 10)) (fun _ => cl_8289)))))))) (tl_c (tl_c (tl_c (tl_c (tl_c (tl_l (P := clP) (K := 8299) (x := (0, 1, 144, 8, 8)) (fun _ => cl_8299)) (tl_c (tl_l (P := clP) (K := 8303) (x := (2, 2, 135, 8, 8)) (fun _ => cl_8303)) (tl_l (P := clP) (K := 8306) (x := (0, 1, 124, 8, 8)) (fun _ => cl_8306)))) (tl_c (tl_c (tl_l (P := clP) (K := 8310) (x := (2, 4, 188, 13, 13)) (fun _ => cl_8310)) (tl_l (P := clP) (K := 8314) (x := (2, 3, 167, 10, 10)) (fun _ => cl_8314))) (tl_c (tl_l (P := clP) (K := 8318) (x := (2, 6, 122, 8, 8)) (fun _ => cl_8318)) (tl_l (P := clP) (K := 8322) (x := (2, 4, 123, 8, 8)) (fun _ => cl_8322))))) (tl_c (tl_c (tl_l (P := clP) (K := 8326) (x := (2, 4, 126, 8, 8)) (fun _ => cl_8326)) (tl_c (tl_l (P := clP) (K := 8330) (x := (0, 1, 127, 8, 8)) (fun _ => cl_8330)) (tl_l (P := clP) (K := 8334) (x := (2, 5, 128, 8, 8)) (fun _ => cl_8334)))) (tl_c (tl_c (tl_l (P := clP) (K := 8338) (x := (2, 3, 131, 8, 8)) (fun _ => cl_8338)) (tl_l (P := clP) (K := 8342) (x := (0, 3, 125, 8, 8)) (fun _ => cl_8342))) (tl_c (tl_l (P := clP) (K := 8346) (x := (0, 2, 396, 20, 20)) (fun _ => cl_8346)) (tl_l (P := clP) (K := 8352) (x := (0, 2, 397, 20, 20)) (fun _ => cl_8352)))))) (tl_c (tl_c (tl_c (tl_l (P := clP) (K := 8355) (x := (2, 2, 164, 9, 9)) (fun _ => cl_8355)) (tl_c (tl_l (P := clP) (K := 8359) (x := (2, 2, 165, 9, 9)) (fun _ => cl_8359)) (tl_l (P := clP) (K := 8362) (x := (2, 5, 129, 8, 8)) (fun _ => cl_8362)))) (tl_c (tl_c (tl_l (P := clP) (K := 8374) (x := (0, 1, 130, 8, 8)) (fun _ => cl_8374)) (tl_l (P := clP) (K := 8377) (x := (0, 2, 395, 20, 20)) (fun _ => cl_8377))) (tl_c (tl_l (P := clP) (K := 8380) (x := (0, 2, 394, 20, 20)) (fun _ => cl_8380)) (tl_l (P := clP) (K := 8382) (x := (2, 2, 137, 8, 8)) (fun _ => cl_8382))))) (tl_c (tl_c (tl_c (tl_l (P := clP) (K := 8385) (x := (2, 3, 141, 8, 8)) (fun _ => cl_8385)) (tl_l (P := clP) (K := 8388) (x := (2, 2, 142, 8, 8)) (fun _ => cl_8388))) (tl_c (tl_l (P := clP) (K := 8391) (x := (2, 3, 147, 8, 8)) (fun _ => cl_8391)) (tl_l (P := clP) (K := 8394) (x := (2, 5, 145, 8, 8)) (fun _ => cl_8394)))) (tl_c (tl_c (tl_l (P := clP) (K := 8398) (x := (2, 3, 148, 8, 8)) (fun _ => cl_8398)) (tl_l (P := clP) (K := 8401) (x := (2, 2, 143, 8, 8)) (fun _ => cl_8401))) (tl_c (tl_l (P := clP) (K := 8407) (x := (2, 4, 149, 8, 8)) (fun _ => cl_8407)) (tl_l (P := clP) (K := 8411) (x := (2, 3, 150, 8, 8)) (fun _ => cl_8411))))))) (tl_c (tl_c (tl_c (tl_c (tl_l (P := clP) (K := 8414) (x := (2, 3, 151, 8, 8)) (fun _ => cl_8414)) (tl_c (tl_l (P := clP) (K := 8422) (x := (2, 3, 216, 15, 15)) (fun _ => cl_8422)) (tl_l (P := clP) (K := 8428) (x := (2, 2, 138, 8, 8)) (fun _ => cl_8428)))) (tl_c (tl_c (tl_l (P := clP) (K := 8431) (x := (0, 1, 225, 15, 15)) (fun _ => cl_8431)) (tl_l (P := clP) (K := 8434) (x := (2, 4, 178, 12, 12)) (fun _ => cl_8434))) (tl_c (tl_l (P := clP) (K := 8440) (x := (2, 3, 146, 8, 8)) (fun _ => cl_8440)) (tl_l (P := clP) (K := 8450) (x := (2, 5, 153, 8, 8)) (fun _ => cl_8450))))) (tl_c (tl_c (tl_c (tl_l (P := clP) (K := 8454) (x := (2, 3, 226, 15, 15)) (fun _ => cl_8454)) (tl_l (P := clP) (K := 9003) (x := (1, 1, 600, 1, 18)) (fun h => absurd h (by decide)))) (tl_c (tl_l (P := clP) (K := 9020) (x := (2, 2, 162, 9, 9)) (fun _ => cl_9020)) (tl_l (P := clP) (K := 9027) (x := (0, 2, 603, 0, 0)) (fun h => absurd h (by decide))))) (tl_c (tl_c (tl_l (P := clP) (K := 10003) (x := (1, 1, 600, 1, 18)) (fun h => absurd h (by decide))) (tl_l (P := clP) (K := 10019) (x := (2, 2, 164, 9, 9)) (fun _ => cl_10019))) (tl_c (tl_l (P := clP) (K := 10030) (x := (2, 2, 165, 9, 9)) (fun _ => cl_10030)) (tl_l (P := clP) (K := 10037) (x := (2, 3, 168, 10, 10)) (fun _ => cl_10037)))))) (tl_c (tl_c (tl_c (tl_l (P := clP) (K := 10041) (x := (2, 5, 170, 10, 10)) (fun _ => cl_10041)) (tl_c (tl_l (P := clP) (K := 10045) (x := (2, 5, 171, 10, 10)) (fun _ => cl_10045)) (tl_l (P := clP) (K := 10048) (x := (0, 1, 398, 20, 20)) (fun _ => cl_10048)))) (tl_c (tl_c (tl_l (P := clP) (K := 10054) (x := (0, 2, 396, 20, 20)) (fun _ => cl_10054)) (tl_l (P := clP) (K := 10058) (x := (2, 4, 173, 10, 10)) (fun _ => cl_10058))) (tl_c (tl_l (P := clP) (K := 10062) (x := (2, 6, 174, 10, 10)) (fun _ => cl_10062)) (tl_l (P := clP) (K := 10066) (x := (0, 2, 397, 20, 20)) (fun _ => cl_10066))))) (tl_c (tl_c (tl_c (tl_l (P := clP) (K := 10082) (x := (2, 4, 172, 10, 10)) (fun _ => cl_10082)) (tl_l (P := clP) (K := 11003) (x := (1, 1, 600, 1, 18)) (fun h => absurd h (by decide)))) (tl_c (tl_l (P := clP) (K := 11025) (x := (2, 2, 176, 12, 13)) (fun _ => cl_11025)) (tl_l (P := clP) (K := 11029) (x := (0, 2, 394, 20, 20)) (fun _ => cl_11029)))) (tl_c (tl_c (tl_l (P := clP) (K := 11035) (x := (0, 2, 395, 20, 20)) (fun _ => cl_11035)) (tl_l (P := clP) (K := 12003) (x := (1, 2, 175, 12, 13)) (fun _ => cl_12003))) (tl_c (tl_l (P := clP) (K := 12024) (x := (2, 4, 177, 12, 12)) (fun _ => cl_12024)) (tl_l (P := clP) (K := 12028) (x := (2, 4, 178, 12, 12)) (fun _ => cl_12028)))))))))) (tl_c (tl_c (tl_c (tl_c (tl_c (tl_c (tl_c (tl_l (P := clP) (K := 12035) (x := (2, 2, 182, 12, 12)) (fun _ => cl_12035)) (tl_c (tl_l (P := clP) (K := 13001) (x := (1, 2, 175, 12, 13)) (fun _ => cl_13001)) (tl_l (P := clP) (K := 13013) (x := (2, 4, 178, 13, 13)) (fun _ => cl_13013)))) (tl_c (tl_c (tl_l (P := clP) (K := 13017) (x := (2, 4, 177, 13, 13)) (fun _ => cl_13017)) (tl_l (P := clP) (K := 14003) (x := (1, 1, 600, 1, 18)) (fun h => absurd h (by decide)))) (tl_c (tl_l (P := clP) (K := 14076) (x := (2, 2, 191, 14, 14)) (fun _ => cl_14076)) (tl_l (P := clP) (K := 14083) (x := (2, 2, 192, 14, 14)) (fun _ => cl_14083))))) (tl_c (tl_c (tl_l (P := clP) (K := 14092) (x := (2, 3, 222, 15, 15)) (fun _ => cl_14092)) (tl_c (tl_l (P := clP) (K := 14096) (x := (2, 3, 197, 14, 14)) (fun _ => cl_14096)) (tl_l (P := clP) (K := 14100) (x := (2, 2, 198, 14, 14)) (fun _ => cl_14100)))) (tl_c (tl_c (tl_l (P := clP) (K := 14115) (x := (2, 2, 195, 14, 14)) (fun _ => cl_14115)) (tl_l (P := clP) (K := 14124) (x := (2, 2, 193, 14, 14)) (fun _ => cl_14124))) (tl_c (tl_l (P := clP) (K := 14127) (x := (2, 3, 200, 14, 14)) (fun _ => cl_14127)) (tl_l (P := clP) (K := 14131) (x := (2, 3, 201, 14, 14)) (fun _ => cl_14131)))))) (tl_c (tl_c (tl_c (tl_l (P := clP) (K := 14134) (x := (2, 3, 210, 14, 14)) (fun _ => cl_14134)) (tl_c (tl_l (P := clP) (K := 14137) (x := (2, 2, 212, 14, 14)) (fun _ => cl_14137)) (tl_l (P := clP) (K := 14140) (x := (2, 1, 194, 14, 14)) (fun _ => cl_14140)))) (tl_c (tl_c (tl_l (P := clP) (K := 14144) (x := (2, 2, 196, 14, 14)) (fun _ => cl_14144)) (tl_l (P := clP) (K := 14147) (x := (2, 3, 213, 14, 14)) (fun _ => cl_14147))) (tl_c (tl_l (P := clP) (K := 14156) (x := (2, 2, 211, 14, 14)) (fun _ => cl_14156)) (tl_l (P := clP) (K := 14160) (x := (0, 3, 199, 14, 14)) (fun _ => cl_14160))))) (tl_c (tl_c (tl_c (tl_l (P := clP) (K := 14167) (x := (2, 2, 202, 14, 14)) (fun _ => cl_14167)) (tl_l (P := clP) (K := 14171) (x := (2, 3, 203, 14, 14)) (fun _ => cl_14171))) (tl_c (tl_l (P := clP) (K := 14174) (x := (2, 2, 205, 14, 14)) (fun _ => cl_14174)) (tl_l (P := clP) (K := 14177) (x := (2, 2, 206, 14, 14)) (fun _ => cl_14177)))) (tl_c (tl_c (tl_l (P := clP) (K := 14183) (x := (2, 3, 208, 14, 14)) (fun _ => cl_14183)) (tl_l (P := clP) (K := 14186) (x := (2, 3, 209, 14, 14)) (fun _ => cl_14186))) (tl_c (tl_l (P := clP) (K := 14189) (x := (2, 3, 207, 14, 14)) (fun _ => cl_14189)) (tl_l (P := clP) (K := 14192) (x := (2, 2, 204, 14, 14)) (fun _ => cl_14192))))))) (tl_c (tl_c (tl_c (tl_c (tl_l (P := clP) (K := 14195) (x := (0, 1, 225, 15, 15)) (fun _ => cl_14195)) (tl_c (tl_l (P := clP) (K := 14200) (x := (2, 3, 226, 15, 15)) (fun _ => cl_14200)) (tl_l (P := clP) (K := 15003) (x := (1, 1, 600, 1, 18)) (fun h => absurd h (by decide))))) (tl_c (tl_c (tl_l (P := clP) (K := 15110) (x := (2, 3, 216, 15, 15)) (fun _ => cl_15110)) (tl_l (P := clP) (K := 15114) (x := (2, 3, 222, 15, 15)) (fun _ => cl_15114))) (tl_c (tl_l (P := clP) (K := 15117) (x := (2, 3, 223, 15, 15)) (fun _ => cl_15117)) (tl_l (P := clP) (K := 16003) (x := (1, 1, 600, 1, 18)) (fun h => absurd h (by decide)))))) (tl_c (tl_c (tl_l (P := clP) (K := 16011) (x := (1, 1, 393, 17, 17)) (fun _ => cl_16011)) (tl_c (tl_l (P := clP) (K := 16148) (x := (2, 2, 229, 16, 16)) (fun _ => cl_16148)) (tl_l (P := clP) (K := 16158) (x := (2, 1, 601, 60, 60)) (fun h => absurd h (by decide))))) (tl_c (tl_c (tl_l (P := clP) (K := 16163) (x := (2, 2, 602, 60, 60)) (fun h => absurd h (by decide))) (tl_l (P := clP) (K := 16167) (x := (2, 5, 255, 16, 16)) (fun _ => cl_16167))) (tl_c (tl_l (P := clP) (K := 16171) (x := (2, 5, 238, 16, 16)) (fun _ => cl_16171)) (tl_l (P := clP) (K := 16174) (x := (2, 2, 242, 16, 16)) (fun _ => cl_16174)))))) (tl_c (tl_c (tl_c (tl_l (P := clP) (K := 16178) (x := (2, 2, 250, 16, 16)) (fun _ => cl_16178)) (tl_c (tl_l (P := clP) (K := 16182) (x := (2, 2, 244, 16, 16)) (fun _ => cl_16182)) (tl_l (P := clP) (K := 16199) (x := (2, 3, 235, 16, 16)) (fun _ => cl_16199)))) (tl_c (tl_c (tl_l (P := clP) (K := 16203) (x := (2, 2, 236, 16, 16)) (fun _ => cl_16203)) (tl_l (P := clP) (K := 16207) (x := (2, 2, 237, 16, 16)) (fun _ => cl_16207))) (tl_c (tl_l (P := clP) (K := 16216) (x := (2, 1, 239, 16, 16)) (fun _ => cl_16216)) (tl_l (P := clP) (K := 16222) (x := (2, 2, 240, 16, 16)) (fun _ => cl_16222))))) (tl_c (tl_c (tl_c (tl_l (P := clP) (K := 16225) (x := (2, 2, 241, 16, 16)) (fun _ => cl_16225)) (tl_l (P := clP) (K := 16238) (x := (2, 2, 243, 16, 16)) (fun _ => cl_16238))) (tl_c (tl_l (P := clP) (K := 16241) (x := (2, 1, 245, 16, 16)) (fun _ => cl_16241)) (tl_l (P := clP) (K := 16248) (x := (2, 4, 248, 16, 16)) (fun _ => cl_16248)))) (tl_c (tl_c (tl_l (P := clP) (K := 16252) (x := (2, 2, 246, 16, 16)) (fun _ => cl_16252)) (tl_l (P := clP) (K := 16257) (x := (2, 2, 247, 16, 16)) (fun _ => cl_16257))) (tl_c (tl_l (P := clP) (K := 16264) (x := (2, 2, 249, 16, 16)) (fun _ => cl_16264)) (tl_l (P := clP) (K := 16272) (x := (2, 2, 254, 16, 16)) (fun _ => cl_16272)))))))) (tl_c (tl_c (tl_c (tl_c (tl_c (tl_l (P := clP) (K := 16276) (x := (2, 4, 253, 16, 16)) (fun _ => cl_16276)) (tl_c (tl_l (P := clP) (K := 16283) (x := (2, 2, 257, 16, 16)) (fun _ => cl_16283)) (tl_l (P := clP) (K := 16286) (x := (2, 3, 252, 16, 16)) (fun _ => cl_16286)))) (tl_c (tl_c (tl_l (P := clP) (K := 16290) (x := (2, 2, 256, 16, 16)) (fun _ => cl_16290)) (tl_l (P := clP) (K := 16299) (x := (0, 3, 261, 16, 16)) (fun _ => cl_16299))) (tl_c (tl_l (P := clP) (K := 16309) (x := (2, 4, 259, 16, 16)) (fun _ => cl_16309)) (tl_l (P := clP) (K := 16311) (x := (2, 4, 263, 16, 16)) (fun _ => cl_16311))))) (tl_c (tl_c (tl_l (P := clP) (K := 16314) (x := (2, 2, 267, 16, 16)) (fun _ => cl_16314)) (tl_c (tl_l (P := clP) (K := 16317) (x := (2, 5, 260, 16, 16)) (fun _ => cl_16317)) (tl_l (P := clP) (K := 16321) (x := (2, 3, 262, 16, 16)) (fun _ => cl_16321)))) (tl_c (tl_c (tl_l (P := clP) (K := 16327) (x := (2, 3, 266, 16, 16)) (fun _ => cl_16327)) (tl_l (P := clP) (K := 16331) (x := (2, 5, 264, 16, 16)) (fun _ => cl_16331))) (tl_c (tl_l (P := clP) (K := 16337) (x := (2, 3, 265, 16, 16)) (fun _ => cl_16337)) (tl_l (P := clP) (K := 16365) (x := (2, 3, 269, 16, 16)) (fun _ => cl_16365)))))) (tl_c (tl_c (tl_c (tl_l (P := clP) (K := 16375) (x := (2, 2, 270, 16, 16)) (fun _ => cl_16375)) (tl_c (tl_l (P := clP) (K := 16381) (x := (2, 2, 271, 16, 16)) (fun _ => cl_16381)) (tl_l (P := clP) (K := 16384) (x := (2, 5, 272, 16, 16)) (fun _ => cl_16384)))) (tl_c (tl_c (tl_l (P := clP) (K := 16388) (x := (2, 5, 274, 16, 16)) (fun _ => cl_16388)) (tl_l (P := clP) (K := 16394) (x := (2, 2, 273, 16, 16)) (fun _ => cl_16394))) (tl_c (tl_l (P := clP) (K := 16420) (x := (2, 3, 275, 16, 16)) (fun _ => cl_16420)) (tl_l (P := clP) (K := 16423) (x := (2, 5, 277, 16, 16)) (fun _ => cl_16423))))) (tl_c (tl_c (tl_c (tl_l (P := clP) (K := 16426) (x := (2, 5, 278, 16, 16)) (fun _ => cl_16426)) (tl_l (P := clP) (K := 16429) (x := (2, 5, 279, 16, 16)) (fun _ => cl_16429))) (tl_c (tl_l (P := clP) (K := 16435) (x := (2, 3, 276, 16, 16)) (fun _ => cl_16435)) (tl_l (P := clP) (K := 16459) (x := (2, 3, 282, 16, 16)) (fun _ => cl_16459)))) (tl_c (tl_c (tl_l (P := clP) (K := 16462) (x := (0, 1, 285, 16, 16)) (fun _ => cl_16462)) (tl_l (P := clP) (K := 16465) (x := (2, 3, 286, 16, 16)) (fun _ => cl_16465))) (tl_c (tl_l (P := clP) (K := 16468) (x := (0, 1, 287, 16, 16)) (fun _ => cl_16468)) (tl_l (P := clP) (K := 16471) (x := (0, 3, 288, 16, 16)) (fun _ => cl_16471))))))) (tl_c (tl_c (tl_c (tl_c (tl_l (P := clP) (K := 16477) (x := (0, 2, 283, 16, 16)) (fun _ => cl_16477)) (tl_c (tl_l (P := clP) (K := 16480) (x := (0, 2, 284, 16, 16)) (fun _ => cl_16480)) (tl_l (P := clP) (K := 16483) (x := (0, 1, 295, 16, 16)) (fun _ => cl_16483)))) (tl_c (tl_c (tl_l (P := clP) (K := 16486) (x := (0, 3, 294, 16, 16)) (fun _ => cl_16486)) (tl_l (P := clP) (K := 16489) (x := (2, 3, 290, 16, 16)) (fun _ => cl_16489))) (tl_c (tl_l (P := clP) (K := 16492) (x := (2, 3, 299, 16, 16)) (fun _ => cl_16492)) (tl_l (P := clP) (K := 16498) (x := (2, 3, 291, 16, 16)) (fun _ => cl_16498))))) (tl_c (tl_c (tl_c (tl_l (P := clP) (K := 16502) (x := (2, 3, 292, 16, 16)) (fun _ => cl_16502)) (tl_l (P := clP) (K := 16505) (x := (2, 3, 296, 16, 16)) (fun _ => cl_16505))) (tl_c (tl_l (P := clP) (K := 16508) (x := (0, 3, 293, 16, 16)) (fun _ => cl_16508)) (tl_l (P := clP) (K := 16511) (x := (2, 2, 297, 16, 16)) (fun _ => cl_16511)))) (tl_c (tl_c (tl_l (P := clP) (K := 16514) (x := (0, 1, 298, 16, 16)) (fun _ => cl_16514)) (tl_l (P := clP) (K := 16517) (x := (0, 1, 300, 16, 16)) (fun _ => cl_16517))) (tl_c (tl_l (P := clP) (K := 16520) (x := (0, 1, 301, 16, 16)) (fun _ => cl_16520)) (tl_l (P := clP) (K := 16523) (x := (0, 3, 302, 16, 16)) (fun _ => cl_16523)))))) (tl_c (tl_c (tl_c (tl_l (P := clP) (K := 16526) (x := (2, 4, 303, 16, 16)) (fun _ => cl_16526)) (tl_c (tl_l (P := clP) (K := 16542) (x := (2, 4, 308, 16, 16)) (fun _ => cl_16542)) (tl_l (P := clP) (K := 16551) (x := (0, 2, 394, 20, 20)) (fun _ => cl_16551)))) (tl_c (tl_c (tl_l (P := clP) (K := 16557) (x := (0, 2, 395, 20, 20)) (fun _ => cl_16557)) (tl_l (P := clP) (K := 16560) (x := (2, 2, 306, 16, 16)) (fun _ => cl_16560))) (tl_c (tl_l (P := clP) (K := 16563) (x := (0, 2, 315, 16, 16)) (fun _ => cl_16563)) (tl_l (P := clP) (K := 16568) (x := (0, 2, 314, 16, 16)) (fun _ => cl_16568))))) (tl_c (tl_c (tl_c (tl_l (P := clP) (K := 16572) (x := (2, 5, 324, 16, 16)) (fun _ => cl_16572)) (tl_l (P := clP) (K := 16591) (x := (2, 5, 330, 16, 16)) (fun _ => cl_16591))) (tl_c (tl_l (P := clP) (K := 16595) (x := (2, 4, 331, 16, 16)) (fun _ => cl_16595)) (tl_l (P := clP) (K := 16616) (x := (2, 3, 305, 16, 16)) (fun _ => cl_16616)))) (tl_c (tl_c (tl_l (P := clP) (K := 16619) (x := (2, 3, 309, 16, 16)) (fun _ => cl_16619)) (tl_l (P := clP) (K := 16622) (x := (2, 3, 307, 16, 16)) (fun _ => cl_16622))) (tl_c (tl_l (P := clP) (K := 16635) (x := (2, 3, 310, 16, 16)) (fun _ => cl_16635)) (tl_l (P := clP) (K := 16638) (x := (2, 3, 311, 16, 16)) (fun _ => cl_16638))))))))) (tl_c (tl_c (tl_c (tl_c (tl_c (tl_c (tl_l (P := clP) (K := 16641) (x := (2, 3, 320, 16, 16)) (fun _ => cl_16641)) (tl_c (tl_l (P := clP) (K := 16644) (x := (0, 1, 321, 16, 16)) (fun _ => cl_16644)) (tl_l (P := clP) (K := 16647) (x := (2, 3, 322, 16, 16)) (fun _ => cl_16647)))) (tl_c (tl_c (tl_l (P := clP) (K := 16650) (x := (0, 2, 339, 16, 16)) (fun _ => cl_16650)) (tl_l (P := clP) (K := 16654) (x := (2, 2, 325, 16, 16)) (fun _ => cl_16654))) (tl_c (tl_l (P := clP) (K := 16660) (x := (2, 3, 312, 16, 16)) (fun _ => cl_16660)) (tl_l (P := clP) (K := 16664) (x := (2, 5, 313, 16, 16)) (fun _ => cl_16664))))) (tl_c (tl_c (tl_l (P := clP) (K := 16667) (x := (2, 3, 316, 16, 16)) (fun _ => cl_16667)) (tl_c (tl_l (P := clP) (K := 16670) (x := (2, 4, 317, 16, 16)) (fun _ => cl_16670)) (tl_l (P := clP) (K := 16673) (x := (2, 2, 319, 16, 16)) (fun _ => cl_16673)))) (tl_c (tl_c (tl_l (P := clP) (K := 16676) (x := (0, 2, 397, 20, 20)) (fun _ => cl_16676)) (tl_l (P := clP) (K := 16679) (x := (0, 2, 396, 20, 20)) (fun _ => cl_16679))) (tl_c (tl_l (P := clP) (K := 16681) (x := (2, 4, 318, 16, 16)) (fun _ => cl_16681)) (tl_l (P := clP) (K := 16684) (x := (2, 4, 323, 16, 16)) (fun _ => cl_16684)))))) (tl_c (tl_c (tl_c (tl_l (P := clP) (K := 16688) (x := (2, 3, 326, 16, 16)) (fun _ => cl_16688)) (tl_c (tl_l (P := clP) (K := 16692) (x := (2, 2, 327, 16, 16)) (fun _ => cl_16692)) (tl_l (P := clP) (K := 16695) (x := (2, 3, 328, 16, 16)) (fun _ => cl_16695)))) (tl_c (tl_c (tl_l (P := clP) (K := 16698) (x := (2, 3, 332, 16, 16)) (fun _ => cl_16698)) (tl_l (P := clP) (K := 16701) (x := (2, 2, 333, 16, 16)) (fun _ => cl_16701))) (tl_c (tl_l (P := clP) (K := 16705) (x := (2, 3, 336, 16, 16)) (fun _ => cl_16705)) (tl_l (P := clP) (K := 16709) (x := (2, 4, 340, 16, 16)) (fun _ => cl_16709))))) (tl_c (tl_c (tl_c (tl_l (P := clP) (K := 16713) (x := (2, 4, 341, 16, 16)) (fun _ => cl_16713)) (tl_l (P := clP) (K := 16716) (x := (2, 4, 342, 16, 16)) (fun _ => cl_16716))) (tl_c (tl_l (P := clP) (K := 16719) (x := (2, 4, 343, 16, 16)) (fun _ => cl_16719)) (tl_l (P := clP) (K := 16722) (x := (2, 3, 344, 16, 16)) (fun _ => cl_16722)))) (tl_c (tl_c (tl_l (P := clP) (K := 16725) (x := (2, 4, 338, 16, 16)) (fun _ => cl_16725)) (tl_l (P := clP) (K := 16729) (x := (2, 6, 345, 16, 16)) (fun _ => cl_16729))) (tl_c (tl_l (P := clP) (K := 16733) (x := (2, 6, 346, 16, 16)) (fun _ => cl_16733)) (tl_l (P := clP) (K := 16737) (x := (2, 6, 348, 16, 16)) (fun _ => cl_16737))))))) (tl_c (tl_c (tl_c (tl_c (tl_l (P := clP) (K := 16744) (x := (2, 3, 347, 16, 16)) (fun _ => cl_16744)) (tl_c (tl_l (P := clP) (K := 16748) (x := (2, 4, 329, 16, 16)) (fun _ => cl_16748)) (tl_l (P := clP) (K := 16751) (x := (2, 2, 334, 16, 16)) (fun _ => cl_16751)))) (tl_c (tl_c (tl_l (P := clP) (K := 16754) (x := (2, 5, 335, 16, 16)) (fun _ => cl_16754)) (tl_l (P := clP) (K := 16758) (x := (2, 4, 337, 16, 16)) (fun _ => cl_16758))) (tl_c (tl_l (P := clP) (K := 16765) (x := (2, 1, 233, 16, 16)) (fun _ => cl_16765)) (tl_l (P := clP) (K := 16768) (x := (2, 1, 234, 16, 16)) (fun _ => cl_16768))))) (tl_c (tl_c (tl_l (P := clP) (K := 16771) (x := (2, 2, 251, 16, 16)) (fun _ => cl_16771)) (tl_c (tl_l (P := clP) (K := 16774) (x := (2, 2, 258, 16, 16)) (fun _ => cl_16774)) (tl_l (P := clP) (K := 16777) (x := (2, 2, 268, 16, 16)) (fun _ => cl_16777)))) (tl_c (tl_c (tl_l (P := clP) (K := 16780) (x := (2, 2, 280, 16, 16)) (fun _ => cl_16780)) (tl_l (P := clP) (K := 16783) (x := (2, 3, 281, 16, 16)) (fun _ => cl_16783))) (tl_c (tl_l (P := clP) (K := 16785) (x := (2, 3, 289, 16, 16)) (fun _ => cl_16785)) (tl_l (P := clP) (K := 16787) (x := (2, 2, 232, 16, 16)) (fun _ => cl_16787)))))) (tl_c (tl_c (tl_c (tl_l (P := clP) (K := 16790) (x := (2, 2, 304, 16, 16)) (fun _ => cl_16790)) (tl_c (tl_l (P := clP) (K := 16797) (x := (2, 2, 352, 16, 16)) (fun _ => cl_16797)) (tl_l (P := clP) (K := 16800) (x := (2, 3, 356, 16, 16)) (fun _ => cl_16800)))) (tl_c (tl_c (tl_l (P := clP) (K := 16803) (x := (2, 3, 355, 16, 16)) (fun _ => cl_16803)) (tl_l (P := clP) (K := 16829) (x := (2, 2, 364, 16, 16)) (fun _ => cl_16829))) (tl_c (tl_l (P := clP) (K := 16832) (x := (2, 2, 365, 16, 16)) (fun _ => cl_16832)) (tl_l (P := clP) (K := 16838) (x := (2, 2, 373, 16, 16)) (fun _ => cl_16838))))) (tl_c (tl_c (tl_c (tl_l (P := clP) (K := 16848) (x := (0, 1, 372, 16, 16)) (fun _ => cl_16848)) (tl_l (P := clP) (K := 16852) (x := (0, 1, 370, 16, 16)) (fun _ => cl_16852))) (tl_c (tl_l (P := clP) (K := 16856) (x := (2, 2, 366, 16, 16)) (fun _ => cl_16856)) (tl_l (P := clP) (K := 16859) (x := (2, 3, 367, 16, 16)) (fun _ => cl_16859)))) (tl_c (tl_c (tl_l (P := clP) (K := 16862) (x := (0, 1, 368, 16, 16)) (fun _ => cl_16862)) (tl_l (P := clP) (K := 16865) (x := (2, 2, 369, 16, 16)) (fun _ => cl_16865))) (tl_c (tl_l (P := clP) (K := 16868) (x := (2, 2, 371, 16, 16)) (fun _ => cl_16868)) (tl_l (P := clP) (K := 16871) (x := (2, 3, 379, 16, 16)) (fun _ => cl_16871)))))))) (tl_c (tl_c (tl_c (tl_c (tl_c (tl_l (P := clP) (K := 16874) (x := (2, 5, 378, 16, 16)) (fun _ => cl_16874)) (tl_c (tl_l (P := clP) (K := 16878) (x := (2, 3, 380, 16, 16)) (fun _ => cl_16878)) (tl_l (P := clP) (K := 16882) (x := (2, 2, 374, 16, 16)) (fun _ => cl_16882)))) (tl_c (tl_c (tl_l (P := clP) (K := 16885) (x := (2, 1, 375, 16, 16)) (fun _ => cl_16885)) (tl_l (P := clP) (K := 16889) (x := (2, 3, 376, 16, 16)) (fun _ => cl_16889))) (tl_c (tl_l (P := clP) (K := 16892) (x := (2, 3, 382, 16, 16)) (fun _ => cl_16892)) (tl_l (P := clP) (K := 16895) (x := (2, 4, 383, 16, 16)) (fun _ => cl_16895))))) (tl_c (tl_c (tl_l (P := clP) (K := 16899) (x := (2, 1, 381, 16, 16)) (fun _ => cl_16899)) (tl_c (tl_l (P := clP) (K := 16902) (x := (2, 3, 377, 16, 16)) (fun _ => cl_16902)) (tl_l (P := clP) (K := 16905) (x := (2, 4, 384, 16, 16)) (fun _ => cl_16905)))) (tl_c (tl_c (tl_l (P := clP) (K := 16908) (x := (2, 3, 385, 16, 16)) (fun _ => cl_16908)) (tl_l (P := clP) (K := 16911) (x := (2, 4, 386, 16, 16)) (fun _ => cl_16911))) (tl_c (tl_l (P := clP) (K := 17003) (x := (1, 1, 600, 1, 18)) (fun h => absurd h (by decide))) (tl_l (P := clP) (K := 19009) (x := (1, 1, 0, 1, 1)) (fun _ => cl_19009)))))) (tl_c (tl_c (tl_c (tl_l (P := clP) (K := 19012) (x := (1, 1, 227, 16, 16)) (fun _ => cl_19012)) (tl_c (tl_l (P := clP) (K := 19013) (x := (2, 6, 1, 1, 1)) (fun _ => cl_19013)) (tl_l (P := clP) (K := 19017) (x := (2, 6, 228, 16, 16)) (fun _ => cl_19017)))) (tl_c (tl_c (tl_l (P := clP) (K := 19018) (x := (2, 2, 3, 1, 1)) (fun _ => cl_19018)) (tl_l (P := clP) (K := 19022) (x := (2, 2, 230, 16, 16)) (fun _ => cl_19022))) (tl_c (tl_l (P := clP) (K := 19023) (x := (2, 1, 4, 1, 1)) (fun _ => cl_19023)) (tl_l (P := clP) (K := 19027) (x := (2, 1, 231, 16, 16)) (fun _ => cl_19027))))) (tl_c (tl_c (tl_c (tl_l (P := clP) (K := 19028) (x := (2, 1, 5, 1, 1)) (fun _ => cl_19028)) (tl_l (P := clP) (K := 19031) (x := (2, 1, 349, 16, 16)) (fun _ => cl_19031))) (tl_c (tl_l (P := clP) (K := 19032) (x := (2, 2, 6, 1, 1)) (fun _ => cl_19032)) (tl_l (P := clP) (K := 19036) (x := (2, 2, 350, 16, 16)) (fun _ => cl_19036)))) (tl_c (tl_c (tl_l (P := clP) (K := 19037) (x := (2, 2, 7, 1, 1)) (fun _ => cl_19037)) (tl_l (P := clP) (K := 19040) (x := (2, 2, 351, 16, 16)) (fun _ => cl_19040))) (tl_c (tl_l (P := clP) (K := 19041) (x := (2, 2, 9, 1, 1)) (fun _ => cl_19041)) (tl_l (P := clP) (K := 19045) (x := (2, 2, 353, 16, 16)) (fun _ => cl_19045))))))) (tl_c (tl_c (tl_c (tl_c (tl_l (P := clP) (K := 19046) (x := (2, 1, 10, 1, 1)) (fun _ => cl_19046)) (tl_c (tl_l (P := clP) (K := 19050) (x := (2, 1, 354, 16, 16)) (fun _ => cl_19050)) (tl_l (P := clP) (K := 19051) (x := (2, 3, 11, 1, 1)) (fun _ => cl_19051)))) (tl_c (tl_c (tl_l (P := clP) (K := 19055) (x := (2, 3, 355, 16, 16)) (fun _ => cl_19055)) (tl_l (P := clP) (K := 19056) (x := (2, 3, 13, 1, 1)) (fun _ => cl_19056))) (tl_c (tl_l (P := clP) (K := 19059) (x := (2, 3, 357, 16, 16)) (fun _ => cl_19059)) (tl_l (P := clP) (K := 19060) (x := (2, 3, 14, 1, 1)) (fun _ => cl_19060))))) (tl_c (tl_c (tl_c (tl_l (P := clP) (K := 19063) (x := (2, 3, 358, 16, 16)) (fun _ => cl_19063)) (tl_l (P := clP) (K := 19064) (x := (2, 3, 15, 1, 1)) (fun _ => cl_19064))) (tl_c (tl_l (P := clP) (K := 19068) (x := (2, 3, 359, 16, 16)) (fun _ => cl_19068)) (tl_l (P := clP) (K := 19069) (x := (2, 4, 16, 1, 1)) (fun _ => cl_19069)))) (tl_c (tl_c (tl_l (P := clP) (K := 19073) (x := (2, 4, 360, 16, 16)) (fun _ => cl_19073)) (tl_l (P := clP) (K := 19074) (x := (2, 3, 17, 1, 1)) (fun _ => cl_19074))) (tl_c (tl_l (P := clP) (K := 19077) (x := (2, 3, 361, 16, 16)) (fun _ => cl_19077)) (tl_l (P := clP) (K := 19078) (x := (2, 2, 18, 1, 1)) (fun _ => cl_19078)))))) (tl_c (tl_c (tl_c (tl_l (P := clP) (K := 19081) (x := (2, 2, 362, 16, 16)) (fun _ => cl_19081)) (tl_c (tl_l (P := clP) (K := 19082) (x := (2, 2, 19, 1, 1)) (fun _ => cl_19082)) (tl_l (P := clP) (K := 19085) (x := (2, 2, 363, 16, 16)) (fun _ => cl_19085)))) (tl_c (tl_c (tl_l (P := clP) (K := 19086) (x := (2, 1, 20, 1, 1)) (fun _ => cl_19086)) (tl_l (P := clP) (K := 19089) (x := (2, 1, 387, 16, 16)) (fun _ => cl_19089))) (tl_c (tl_l (P := clP) (K := 19090) (x := (2, 1, 21, 1, 1)) (fun _ => cl_19090)) (tl_l (P := clP) (K := 19093) (x := (2, 1, 388, 16, 16)) (fun _ => cl_19093))))) (tl_c (tl_c (tl_c (tl_l (P := clP) (K := 19094) (x := (2, 1, 22, 1, 1)) (fun _ => cl_19094)) (tl_l (P := clP) (K := 19097) (x := (2, 1, 389, 16, 16)) (fun _ => cl_19097))) (tl_c (tl_l (P := clP) (K := 19098) (x := (2, 1, 23, 1, 1)) (fun _ => cl_19098)) (tl_l (P := clP) (K := 19101) (x := (2, 1, 390, 16, 16)) (fun _ => cl_19101)))) (tl_c (tl_c (tl_l (P := clP) (K := 19102) (x := (2, 2, 24, 1, 1)) (fun _ => cl_19102)) (tl_l (P := clP) (K := 19105) (x := (2, 2, 391, 16, 16)) (fun _ => cl_19105))) (tl_c (tl_l (P := clP) (K := 19106) (x := (2, 1, 25, 1, 1)) (fun _ => cl_19106)) (tl_l (P := clP) (K := 19109) (x := (2, 1, 392, 16, 16)) (fun _ => cl_19109))))))))))
def rtT (t : Nat) : Option FieldType := match t with
  | 0 => none
  | 1 => some .int
  | 2 => some .boolean
  | 3 => some .long
  | _ => some (.object "java/lang/IllegalStateException")
/-- what is known of a method -/
def mtP (m : Nat) : Prop := Cond.code (yn m) (cod m) (inf m).2.1 (rtT (inf m).2.2.2.1) ∈ lw_all ∧ (yn m).cls = owS (inf m).1 ∧ plainFor (yn m) = true ∧ ((inf m).2.2.2.2 = 1 → (yn m).name = "<init>") ∧ chk (cod m) (tb m) = true
theorem mt_s {m K : Nat} {P : Prop} (h1 : m ≤ K → P) (h2 : K + 1 ≤ m → P) : P := (Nat.lt_or_ge K m).elim h2 h1
theorem mt_l {m K : Nat} {P : Nat → Prop} (h : P K) (h1 : K ≤ m) (h2 : m ≤ K) : P m := by rw [Nat.le_antisymm h2 h1]; exact h
theorem mt_0 : mtP 0 := ⟨q279, rfl, plainFor_of_name (by decide +kernel), fun _ => rfl, k_X0_init⟩
theorem mt_1 : mtP 1 := ⟨q1064, rfl, plainFor_of_name (by decide +kernel), fun h => absurd h (by decide), k_X0_feed⟩
theorem mt_2 : mtP 2 := ⟨q1069, rfl, plainFor_of_name (by decide +kernel), fun h => absurd h (by decide), k_X0_put⟩
theorem mt_3 : mtP 3 := ⟨q1073, rfl, plainFor_of_name (by decide +kernel), fun h => absurd h (by decide), k_X0_end⟩
theorem mt_5 : mtP 5 := ⟨q1878, rfl, plainFor_of_name (by decide +kernel), fun h => absurd h (by decide), k_X0_faultAt⟩
theorem mt_6 : mtP 6 := ⟨q1882, rfl, plainFor_of_name (by decide +kernel), fun h => absurd h (by decide), k_X0_size⟩
theorem mt_7 : mtP 7 := ⟨q1886, rfl, plainFor_of_name (by decide +kernel), fun h => absurd h (by decide), k_X0_errors⟩
theorem mt_8 : mtP 8 := ⟨q1890, rfl, plainFor_of_name (by decide +kernel), fun h => absurd h (by decide), k_X0_isCode⟩
theorem mt_9 : mtP 9 := ⟨q1898, rfl, plainFor_of_name (by decide +kernel), fun h => absurd h (by decide), k_X0_escapes⟩
theorem mt_10 : mtP 10 := ⟨q1902, rfl, plainFor_of_name (by decide +kernel), fun h => absurd h (by decide), k_X0_ends⟩
theorem mt_11 : mtP 11 := ⟨q1906, rfl, plainFor_of_name (by decide +kernel), fun h => absurd h (by decide), k_X0_kind⟩
theorem mt_12 : mtP 12 := ⟨q1910, rfl, plainFor_of_name (by decide +kernel), fun h => absurd h (by decide), k_X0_isSlot⟩
theorem mt_13 : mtP 13 := ⟨q1914, rfl, plainFor_of_name (by decide +kernel), fun h => absurd h (by decide), k_X0_low⟩
theorem mt_14 : mtP 14 := ⟨q1919, rfl, plainFor_of_name (by decide +kernel), fun h => absurd h (by decide), k_X0_high⟩
theorem mt_15 : mtP 15 := ⟨q1923, rfl, plainFor_of_name (by decide +kernel), fun h => absurd h (by decide), k_X0_sites⟩
theorem mt_16 : mtP 16 := ⟨q1927, rfl, plainFor_of_name (by decide +kernel), fun h => absurd h (by decide), k_X0_fact⟩
theorem mt_17 : mtP 17 := ⟨q1931, rfl, plainFor_of_name (by decide +kernel), fun h => absurd h (by decide), k_X0_lengths⟩
theorem mt_18 : mtP 18 := ⟨q1935, rfl, plainFor_of_name (by decide +kernel), fun h => absurd h (by decide), k_X0_input⟩
theorem mt_19 : mtP 19 := ⟨q1939, rfl, plainFor_of_name (by decide +kernel), fun h => absurd h (by decide), k_X0_run⟩
theorem mt_20 : mtP 20 := ⟨q2041, rfl, plainFor_of_name (by decide +kernel), fun h => absurd h (by decide), k_X0_steps⟩
theorem mt_21 : mtP 21 := ⟨q2045, rfl, plainFor_of_name (by decide +kernel), fun h => absurd h (by decide), k_X0_place⟩
theorem mt_22 : mtP 22 := ⟨q2049, rfl, plainFor_of_name (by decide +kernel), fun h => absurd h (by decide), k_X0_thrown⟩
theorem mt_23 : mtP 23 := ⟨q2053, rfl, plainFor_of_name (by decide +kernel), fun h => absurd h (by decide), k_X0_written⟩
theorem mt_24 : mtP 24 := ⟨q2057, rfl, plainFor_of_name (by decide +kernel), fun h => absurd h (by decide), k_X0_out⟩
theorem mt_25 : mtP 25 := ⟨q2062, rfl, plainFor_of_name (by decide +kernel), fun h => absurd h (by decide), k_X0_strays⟩
theorem mt_26 : mtP 26 := ⟨q287, rfl, plainFor_of_name (by decide +kernel), fun _ => rfl, k_X1_init⟩
theorem mt_27 : mtP 27 := ⟨q1001, rfl, plainFor_of_name (by decide +kernel), fun h => absurd h (by decide), k_X1_begin⟩
theorem mt_28 : mtP 28 := ⟨q1097, rfl, plainFor_of_name (by decide +kernel), fun h => absurd h (by decide), k_X1_at⟩
theorem mt_29 : mtP 29 := ⟨q366, rfl, plainFor_of_name (by decide +kernel), fun _ => rfl, k_X2_init⟩
theorem mt_30 : mtP 30 := ⟨q1082, rfl, plainFor_of_name (by decide +kernel), fun h => absurd h (by decide), k_X2_cut⟩
theorem mt_31 : mtP 31 := ⟨q1089, rfl, plainFor_of_name (by decide +kernel), fun h => absurd h (by decide), k_X2_isRight⟩
theorem mt_32 : mtP 32 := ⟨q1093, rfl, plainFor_of_name (by decide +kernel), fun h => absurd h (by decide), k_X2_size⟩
theorem mt_33 : mtP 33 := ⟨q1101, rfl, plainFor_of_name (by decide +kernel), fun h => absurd h (by decide), k_X2_lineEnd⟩
theorem mt_34 : mtP 34 := ⟨q1104, rfl, plainFor_of_name (by decide +kernel), fun h => absurd h (by decide), k_X2_isBlank⟩
theorem mt_35 : mtP 35 := ⟨q1127, rfl, plainFor_of_name (by decide +kernel), fun h => absurd h (by decide), k_X2_isMark⟩
theorem mt_36 : mtP 36 := ⟨q1131, rfl, plainFor_of_name (by decide +kernel), fun h => absurd h (by decide), k_X2_wordEnd⟩
theorem mt_37 : mtP 37 := ⟨q1146, rfl, plainFor_of_name (by decide +kernel), fun h => absurd h (by decide), k_X2_is⟩
theorem mt_38 : mtP 38 := ⟨q1160, rfl, plainFor_of_name (by decide +kernel), fun h => absurd h (by decide), k_X2_isAt⟩
theorem mt_39 : mtP 39 := ⟨q1207, rfl, plainFor_of_name (by decide +kernel), fun h => absurd h (by decide), k_X2_isClassName⟩
theorem mt_40 : mtP 40 := ⟨q1211, rfl, plainFor_of_name (by decide +kernel), fun h => absurd h (by decide), k_X2_isNameAt⟩
theorem mt_41 : mtP 41 := ⟨q1226, rfl, plainFor_of_name (by decide +kernel), fun h => absurd h (by decide), k_X2_isName⟩
theorem mt_42 : mtP 42 := ⟨q1230, rfl, plainFor_of_name (by decide +kernel), fun h => absurd h (by decide), k_X2_isType⟩
theorem mt_43 : mtP 43 := ⟨q1234, rfl, plainFor_of_name (by decide +kernel), fun h => absurd h (by decide), k_X2_isIntBare⟩
theorem mt_44 : mtP 44 := ⟨q1238, rfl, plainFor_of_name (by decide +kernel), fun h => absurd h (by decide), k_X2_bareEnd⟩
theorem mt_45 : mtP 45 := ⟨q1242, rfl, plainFor_of_name (by decide +kernel), fun h => absurd h (by decide), k_X2_isArrayWord⟩
theorem mt_46 : mtP 46 := ⟨q1254, rfl, plainFor_of_name (by decide +kernel), fun h => absurd h (by decide), k_X2_isNumber⟩
theorem mt_47 : mtP 47 := ⟨q1258, rfl, plainFor_of_name (by decide +kernel), fun h => absurd h (by decide), k_X2_value⟩
theorem mt_48 : mtP 48 := ⟨q1273, rfl, plainFor_of_name (by decide +kernel), fun h => absurd h (by decide), k_X2_word⟩
theorem mt_49 : mtP 49 := ⟨q1277, rfl, plainFor_of_name (by decide +kernel), fun h => absurd h (by decide), k_X2_wordOf⟩
theorem mt_50 : mtP 50 := ⟨q1286, rfl, plainFor_of_name (by decide +kernel), fun h => absurd h (by decide), k_X2_point⟩
theorem mt_51 : mtP 51 := ⟨q1310, rfl, plainFor_of_name (by decide +kernel), fun h => absurd h (by decide), k_X2_knownClass⟩
theorem mt_52 : mtP 52 := ⟨q1315, rfl, plainFor_of_name (by decide +kernel), fun h => absurd h (by decide), k_X2_isSamePart⟩
theorem mt_53 : mtP 53 := ⟨q1345, rfl, plainFor_of_name (by decide +kernel), fun h => absurd h (by decide), k_X2_isArrayType⟩
theorem mt_54 : mtP 54 := ⟨q1377, rfl, plainFor_of_name (by decide +kernel), fun h => absurd h (by decide), k_X2_isSame⟩
theorem mt_55 : mtP 55 := ⟨q1384, rfl, plainFor_of_name (by decide +kernel), fun h => absurd h (by decide), k_X2_number⟩
theorem mt_56 : mtP 56 := ⟨q372, rfl, plainFor_of_name (by decide +kernel), fun _ => rfl, k_X3_init⟩
theorem mt_57 : mtP 57 := ⟨q1086, rfl, plainFor_of_name (by decide +kernel), fun h => absurd h (by decide), k_X3_clear⟩
theorem mt_58 : mtP 58 := ⟨q1108, rfl, plainFor_of_name (by decide +kernel), fun h => absurd h (by decide), k_X3_add⟩
theorem mt_59 : mtP 59 := ⟨q406, rfl, plainFor_of_name (by decide +kernel), fun _ => rfl, k_X4_init⟩
theorem mt_60 : mtP 60 := ⟨q1135, rfl, plainFor_of_name (by decide +kernel), fun h => absurd h (by decide), k_X4_read⟩
theorem mt_61 : mtP 61 := ⟨q1139, rfl, plainFor_of_name (by decide +kernel), fun h => absurd h (by decide), k_X4_clear⟩
theorem mt_62 : mtP 62 := ⟨q1202, rfl, plainFor_of_name (by decide +kernel), fun h => absurd h (by decide), k_X4_must⟩
theorem mt_63 : mtP 63 := ⟨q1219, rfl, plainFor_of_name (by decide +kernel), fun h => absurd h (by decide), k_X4_member⟩
theorem mt_64 : mtP 64 := ⟨q1247, rfl, plainFor_of_name (by decide +kernel), fun h => absurd h (by decide), k_X4_body⟩
theorem mt_65 : mtP 65 := ⟨q1266, rfl, plainFor_of_name (by decide +kernel), fun h => absurd h (by decide), k_X4_line⟩
theorem mt_66 : mtP 66 := ⟨q1281, rfl, plainFor_of_name (by decide +kernel), fun h => absurd h (by decide), k_X4_operands⟩
theorem mt_67 : mtP 67 := ⟨q464, rfl, plainFor_of_name (by decide +kernel), fun _ => rfl, k_X5_init⟩
theorem mt_68 : mtP 68 := ⟨q1290, rfl, plainFor_of_name (by decide +kernel), fun h => absurd h (by decide), k_X5_load⟩
theorem mt_69 : mtP 69 := ⟨q1298, rfl, plainFor_of_name (by decide +kernel), fun h => absurd h (by decide), k_X5_readClass⟩
theorem mt_70 : mtP 70 := ⟨q1302, rfl, plainFor_of_name (by decide +kernel), fun h => absurd h (by decide), k_X5_classOf⟩
theorem mt_71 : mtP 71 := ⟨q1306, rfl, plainFor_of_name (by decide +kernel), fun h => absurd h (by decide), k_X5_classAt⟩
theorem mt_72 : mtP 72 := ⟨q1319, rfl, plainFor_of_name (by decide +kernel), fun h => absurd h (by decide), k_X5_must⟩
theorem mt_73 : mtP 73 := ⟨q1324, rfl, plainFor_of_name (by decide +kernel), fun h => absurd h (by decide), k_X5_readMember⟩
theorem mt_74 : mtP 74 := ⟨q1328, rfl, plainFor_of_name (by decide +kernel), fun h => absurd h (by decide), k_X5_readField⟩
theorem mt_75 : mtP 75 := ⟨q1332, rfl, plainFor_of_name (by decide +kernel), fun h => absurd h (by decide), k_X5_field⟩
theorem mt_76 : mtP 76 := ⟨q1336, rfl, plainFor_of_name (by decide +kernel), fun h => absurd h (by decide), k_X5_typeMust⟩
theorem mt_77 : mtP 77 := ⟨q1340, rfl, plainFor_of_name (by decide +kernel), fun h => absurd h (by decide), k_X5_typeOf⟩
theorem mt_78 : mtP 78 := ⟨q1350, rfl, plainFor_of_name (by decide +kernel), fun h => absurd h (by decide), k_X5_fieldsAbove⟩
theorem mt_79 : mtP 79 := ⟨q1358, rfl, plainFor_of_name (by decide +kernel), fun h => absurd h (by decide), k_X5_readHead⟩
theorem mt_80 : mtP 80 := ⟨q1362, rfl, plainFor_of_name (by decide +kernel), fun h => absurd h (by decide), k_X5_nearestBody⟩
theorem mt_81 : mtP 81 := ⟨q1366, rfl, plainFor_of_name (by decide +kernel), fun h => absurd h (by decide), k_X5_bodyIn⟩
theorem mt_82 : mtP 82 := ⟨q1370, rfl, plainFor_of_name (by decide +kernel), fun h => absurd h (by decide), k_X5_isSameHead⟩
theorem mt_83 : mtP 83 := ⟨q1373, rfl, plainFor_of_name (by decide +kernel), fun h => absurd h (by decide), k_X5_firstType⟩
theorem mt_84 : mtP 84 := ⟨q1388, rfl, plainFor_of_name (by decide +kernel), fun h => absurd h (by decide), k_X5_readBody⟩
theorem mt_85 : mtP 85 := ⟨q1392, rfl, plainFor_of_name (by decide +kernel), fun h => absurd h (by decide), k_X5_linesBefore⟩
theorem mt_86 : mtP 86 := ⟨q1396, rfl, plainFor_of_name (by decide +kernel), fun h => absurd h (by decide), k_X5_findLabels⟩
theorem mt_87 : mtP 87 := ⟨q1402, rfl, plainFor_of_name (by decide +kernel), fun h => absurd h (by decide), k_X5_readCatch⟩
theorem mt_88 : mtP 88 := ⟨q1406, rfl, plainFor_of_name (by decide +kernel), fun h => absurd h (by decide), k_X5_label⟩
theorem mt_89 : mtP 89 := ⟨q1410, rfl, plainFor_of_name (by decide +kernel), fun h => absurd h (by decide), k_X5_readInstruction⟩
theorem mt_90 : mtP 90 := ⟨q1414, rfl, plainFor_of_name (by decide +kernel), fun h => absurd h (by decide), k_X5_operand⟩
theorem mt_91 : mtP 91 := ⟨q1418, rfl, plainFor_of_name (by decide +kernel), fun h => absurd h (by decide), k_X5_member⟩
theorem mt_92 : mtP 92 := ⟨q1427, rfl, plainFor_of_name (by decide +kernel), fun h => absurd h (by decide), k_X5_findMain⟩
theorem mt_93 : mtP 93 := ⟨q500, rfl, plainFor_of_name (by decide +kernel), fun _ => rfl, k_X6_init⟩
theorem mt_94 : mtP 94 := ⟨q1434, rfl, plainFor_of_name (by decide +kernel), fun h => absurd h (by decide), k_X6_check⟩
theorem mt_95 : mtP 95 := ⟨q1438, rfl, plainFor_of_name (by decide +kernel), fun h => absurd h (by decide), k_X6_findHeights⟩
theorem mt_96 : mtP 96 := ⟨q1442, rfl, plainFor_of_name (by decide +kernel), fun h => absurd h (by decide), k_X6_reach⟩
theorem mt_97 : mtP 97 := ⟨q1446, rfl, plainFor_of_name (by decide +kernel), fun h => absurd h (by decide), k_X6_spread⟩
theorem mt_98 : mtP 98 := ⟨q1463, rfl, plainFor_of_name (by decide +kernel), fun h => absurd h (by decide), k_X6_covers⟩
theorem mt_99 : mtP 99 := ⟨q1468, rfl, plainFor_of_name (by decide +kernel), fun h => absurd h (by decide), k_X6_findTypes⟩
theorem mt_100 : mtP 100 := ⟨q1472, rfl, plainFor_of_name (by decide +kernel), fun h => absurd h (by decide), k_X6_join⟩
theorem mt_101 : mtP 101 := ⟨q1489, rfl, plainFor_of_name (by decide +kernel), fun h => absurd h (by decide), k_X6_caught⟩
theorem mt_102 : mtP 102 := ⟨q1493, rfl, plainFor_of_name (by decide +kernel), fun h => absurd h (by decide), k_X6_take⟩
theorem mt_103 : mtP 103 := ⟨q1497, rfl, plainFor_of_name (by decide +kernel), fun h => absurd h (by decide), k_X6_push⟩
theorem mt_104 : mtP 104 := ⟨q1501, rfl, plainFor_of_name (by decide +kernel), fun h => absurd h (by decide), k_X6_act⟩
theorem mt_105 : mtP 105 := ⟨q1504, rfl, plainFor_of_name (by decide +kernel), fun h => absurd h (by decide), k_X6_elementOf⟩
theorem mt_106 : mtP 106 := ⟨q1514, rfl, plainFor_of_name (by decide +kernel), fun h => absurd h (by decide), k_X6_isRight⟩
theorem mt_107 : mtP 107 := ⟨q1518, rfl, plainFor_of_name (by decide +kernel), fun h => absurd h (by decide), k_X6_top⟩
theorem mt_108 : mtP 108 := ⟨q1521, rfl, plainFor_of_name (by decide +kernel), fun h => absurd h (by decide), k_X6_isRef⟩
theorem mt_109 : mtP 109 := ⟨q1524, rfl, plainFor_of_name (by decide +kernel), fun h => absurd h (by decide), k_X6_isRow⟩
theorem mt_110 : mtP 110 := ⟨q1529, rfl, plainFor_of_name (by decide +kernel), fun h => absurd h (by decide), k_X6_areArguments⟩
theorem mt_111 : mtP 111 := ⟨q1533, rfl, plainFor_of_name (by decide +kernel), fun h => absurd h (by decide), k_X6_areInts⟩
theorem mt_112 : mtP 112 := ⟨q532, rfl, plainFor_of_name (by decide +kernel), fun _ => rfl, k_X7_init⟩
theorem mt_113 : mtP 113 := ⟨q1537, rfl, plainFor_of_name (by decide +kernel), fun h => absurd h (by decide), k_X7_seek⟩
theorem mt_114 : mtP 114 := ⟨q1541, rfl, plainFor_of_name (by decide +kernel), fun h => absurd h (by decide), k_X7_begin⟩
theorem mt_115 : mtP 115 := ⟨q1566, rfl, plainFor_of_name (by decide +kernel), fun h => absurd h (by decide), k_X7_sitesOf⟩
theorem mt_116 : mtP 116 := ⟨q1571, rfl, plainFor_of_name (by decide +kernel), fun h => absurd h (by decide), k_X7_enter⟩
theorem mt_117 : mtP 117 := ⟨q1591, rfl, plainFor_of_name (by decide +kernel), fun h => absurd h (by decide), k_X7_flow⟩
theorem mt_118 : mtP 118 := ⟨q1616, rfl, plainFor_of_name (by decide +kernel), fun h => absurd h (by decide), k_X7_wake⟩
theorem mt_119 : mtP 119 := ⟨q1620, rfl, plainFor_of_name (by decide +kernel), fun h => absurd h (by decide), k_X7_act⟩
theorem mt_120 : mtP 120 := ⟨q1624, rfl, plainFor_of_name (by decide +kernel), fun h => absurd h (by decide), k_X7_branch⟩
theorem mt_121 : mtP 121 := ⟨q1628, rfl, plainFor_of_name (by decide +kernel), fun h => absurd h (by decide), k_X7_pop⟩
theorem mt_122 : mtP 122 := ⟨q1632, rfl, plainFor_of_name (by decide +kernel), fun h => absurd h (by decide), k_X7_way⟩
theorem mt_123 : mtP 123 := ⟨q1636, rfl, plainFor_of_name (by decide +kernel), fun h => absurd h (by decide), k_X7_nullWay⟩
theorem mt_124 : mtP 124 := ⟨q1640, rfl, plainFor_of_name (by decide +kernel), fun h => absurd h (by decide), k_X7_objects⟩
theorem mt_125 : mtP 125 := ⟨q1644, rfl, plainFor_of_name (by decide +kernel), fun h => absurd h (by decide), k_X7_keep⟩
theorem mt_126 : mtP 126 := ⟨q1648, rfl, plainFor_of_name (by decide +kernel), fun h => absurd h (by decide), k_X7_sameWay⟩
theorem mt_127 : mtP 127 := ⟨q1651, rfl, plainFor_of_name (by decide +kernel), fun h => absurd h (by decide), k_X7_contrary⟩
theorem mt_128 : mtP 128 := ⟨q1655, rfl, plainFor_of_name (by decide +kernel), fun h => absurd h (by decide), k_X7_relate⟩
theorem mt_129 : mtP 129 := ⟨q1659, rfl, plainFor_of_name (by decide +kernel), fun h => absurd h (by decide), k_X7_cut⟩
theorem mt_130 : mtP 130 := ⟨q1676, rfl, plainFor_of_name (by decide +kernel), fun h => absurd h (by decide), k_X7_bit⟩
theorem mt_131 : mtP 131 := ⟨q1680, rfl, plainFor_of_name (by decide +kernel), fun h => absurd h (by decide), k_X7_learn⟩
theorem mt_132 : mtP 132 := ⟨q1686, rfl, plainFor_of_name (by decide +kernel), fun h => absurd h (by decide), k_X7_compute⟩
theorem mt_133 : mtP 133 := ⟨q1704, rfl, plainFor_of_name (by decide +kernel), fun h => absurd h (by decide), k_X7_pushRange⟩
theorem mt_134 : mtP 134 := ⟨q1708, rfl, plainFor_of_name (by decide +kernel), fun h => absurd h (by decide), k_X7_push⟩
theorem mt_135 : mtP 135 := ⟨q1718, rfl, plainFor_of_name (by decide +kernel), fun h => absurd h (by decide), k_X7_raise⟩
theorem mt_136 : mtP 136 := ⟨q1755, rfl, plainFor_of_name (by decide +kernel), fun h => absurd h (by decide), k_X7_heap⟩
theorem mt_137 : mtP 137 := ⟨q1759, rfl, plainFor_of_name (by decide +kernel), fun h => absurd h (by decide), k_X7_makeObject⟩
theorem mt_138 : mtP 138 := ⟨q1764, rfl, plainFor_of_name (by decide +kernel), fun h => absurd h (by decide), k_X7_zero⟩
theorem mt_139 : mtP 139 := ⟨q1784, rfl, plainFor_of_name (by decide +kernel), fun h => absurd h (by decide), k_X7_wakeAll⟩
theorem mt_140 : mtP 140 := ⟨q1788, rfl, plainFor_of_name (by decide +kernel), fun h => absurd h (by decide), k_X7_pushSites⟩
theorem mt_141 : mtP 141 := ⟨q1792, rfl, plainFor_of_name (by decide +kernel), fun h => absurd h (by decide), k_X7_makeArray⟩
theorem mt_142 : mtP 142 := ⟨q1797, rfl, plainFor_of_name (by decide +kernel), fun h => absurd h (by decide), k_X7_length⟩
theorem mt_143 : mtP 143 := ⟨q1801, rfl, plainFor_of_name (by decide +kernel), fun h => absurd h (by decide), k_X7_dereference⟩
theorem mt_144 : mtP 144 := ⟨q1804, rfl, plainFor_of_name (by decide +kernel), fun h => absurd h (by decide), k_X7_hasNull⟩
theorem mt_145 : mtP 145 := ⟨q1808, rfl, plainFor_of_name (by decide +kernel), fun h => absurd h (by decide), k_X7_loadAll⟩
theorem mt_146 : mtP 146 := ⟨q1812, rfl, plainFor_of_name (by decide +kernel), fun h => absurd h (by decide), k_X7_joined⟩
theorem mt_147 : mtP 147 := ⟨q1817, rfl, plainFor_of_name (by decide +kernel), fun h => absurd h (by decide), k_X7_index⟩
theorem mt_148 : mtP 148 := ⟨q1822, rfl, plainFor_of_name (by decide +kernel), fun h => absurd h (by decide), k_X7_storeElements⟩
theorem mt_149 : mtP 149 := ⟨q1826, rfl, plainFor_of_name (by decide +kernel), fun h => absurd h (by decide), k_X7_storeFields⟩
theorem mt_150 : mtP 150 := ⟨q1830, rfl, plainFor_of_name (by decide +kernel), fun h => absurd h (by decide), k_X7_cast⟩
theorem mt_151 : mtP 151 := ⟨q1834, rfl, plainFor_of_name (by decide +kernel), fun h => absurd h (by decide), k_X7_is⟩
theorem mt_152 : mtP 152 := ⟨q1838, rfl, plainFor_of_name (by decide +kernel), fun h => absurd h (by decide), k_X7_call⟩
theorem mt_153 : mtP 153 := ⟨q1843, rfl, plainFor_of_name (by decide +kernel), fun h => absurd h (by decide), k_X7_pass⟩
theorem mt_154 : mtP 154 := ⟨q1851, rfl, plainFor_of_name (by decide +kernel), fun h => absurd h (by decide), k_X7_simple⟩
theorem mt_155 : mtP 155 := ⟨q1861, rfl, plainFor_of_name (by decide +kernel), fun h => absurd h (by decide), k_X7_increase⟩
theorem mt_156 : mtP 156 := ⟨q1865, rfl, plainFor_of_name (by decide +kernel), fun h => absurd h (by decide), k_X7_throwing⟩
theorem mt_157 : mtP 157 := ⟨q1869, rfl, plainFor_of_name (by decide +kernel), fun h => absurd h (by decide), k_X7_end⟩
theorem mt_158 : mtP 158 := ⟨q1873, rfl, plainFor_of_name (by decide +kernel), fun h => absurd h (by decide), k_X7_spread⟩
theorem mt_159 : mtP 159 := ⟨q1894, rfl, plainFor_of_name (by decide +kernel), fun h => absurd h (by decide), k_X7_errorsOf⟩
theorem mt_160 : mtP 160 := ⟨q538, rfl, plainFor_of_name (by decide +kernel), fun _ => rfl, k_X8_init⟩
theorem mt_161 : mtP 161 := ⟨q1545, rfl, plainFor_of_name (by decide +kernel), fun h => absurd h (by decide), k_X8_begin⟩
theorem mt_162 : mtP 162 := ⟨q1550, rfl, plainFor_of_name (by decide +kernel), fun h => absurd h (by decide), k_X8_add⟩
theorem mt_163 : mtP 163 := ⟨q1558, rfl, plainFor_of_name (by decide +kernel), fun h => absurd h (by decide), k_X8_around⟩
theorem mt_164 : mtP 164 := ⟨q1669, rfl, plainFor_of_name (by decide +kernel), fun h => absurd h (by decide), k_X8_down⟩
theorem mt_165 : mtP 165 := ⟨q1673, rfl, plainFor_of_name (by decide +kernel), fun h => absurd h (by decide), k_X8_up⟩
theorem mt_166 : mtP 166 := ⟨q552, rfl, plainFor_of_name (by decide +kernel), fun _ => rfl, k_X9_init⟩
theorem mt_167 : mtP 167 := ⟨q1690, rfl, plainFor_of_name (by decide +kernel), fun h => absurd h (by decide), k_X9_negate⟩
theorem mt_168 : mtP 168 := ⟨q1694, rfl, plainFor_of_name (by decide +kernel), fun h => absurd h (by decide), k_X9_put⟩
theorem mt_169 : mtP 169 := ⟨q1722, rfl, plainFor_of_name (by decide +kernel), fun h => absurd h (by decide), k_X9_work⟩
theorem mt_170 : mtP 170 := ⟨q1726, rfl, plainFor_of_name (by decide +kernel), fun h => absurd h (by decide), k_X9_product⟩
theorem mt_171 : mtP 171 := ⟨q1732, rfl, plainFor_of_name (by decide +kernel), fun h => absurd h (by decide), k_X9_quotient⟩
theorem mt_172 : mtP 172 := ⟨q1738, rfl, plainFor_of_name (by decide +kernel), fun h => absurd h (by decide), k_X9_divide⟩
theorem mt_173 : mtP 173 := ⟨q1746, rfl, plainFor_of_name (by decide +kernel), fun h => absurd h (by decide), k_X9_rest⟩
theorem mt_174 : mtP 174 := ⟨q1750, rfl, plainFor_of_name (by decide +kernel), fun h => absurd h (by decide), k_X9_bits⟩
theorem mt_175 : mtP 175 := ⟨q579, rfl, plainFor_of_name (by decide +kernel), fun _ => rfl, k_X10_init⟩
theorem mt_176 : mtP 176 := ⟨q1577, rfl, plainFor_of_name (by decide +kernel), fun h => absurd h (by decide), k_X10_unset⟩
theorem mt_177 : mtP 177 := ⟨q1587, rfl, plainFor_of_name (by decide +kernel), fun h => absurd h (by decide), k_X10_putValue⟩
theorem mt_178 : mtP 178 := ⟨q1606, rfl, plainFor_of_name (by decide +kernel), fun h => absurd h (by decide), k_X10_joinValue⟩
theorem mt_179 : mtP 179 := ⟨q1714, rfl, plainFor_of_name (by decide +kernel), fun h => absurd h (by decide), k_X10_putRange⟩
theorem mt_180 : mtP 180 := ⟨q1770, rfl, plainFor_of_name (by decide +kernel), fun h => absurd h (by decide), k_X10_putSites⟩
theorem mt_181 : mtP 181 := ⟨q576, rfl, plainFor_of_name (by decide +kernel), fun _ => rfl, k_X11_init⟩
theorem mt_182 : mtP 182 := ⟨q1581, rfl, plainFor_of_name (by decide +kernel), fun h => absurd h (by decide), k_X11_plain⟩
theorem mt_183 : mtP 183 := ⟨q1595, rfl, plainFor_of_name (by decide +kernel), fun h => absurd h (by decide), k_X11_put⟩
theorem mt_184 : mtP 184 := ⟨q1600, rfl, plainFor_of_name (by decide +kernel), fun h => absurd h (by decide), k_X11_join⟩
theorem mt_185 : mtP 185 := ⟨q1857, rfl, plainFor_of_name (by decide +kernel), fun h => absurd h (by decide), k_X11_forget⟩
theorem mt_186 : mtP 186 := ⟨q637, rfl, plainFor_of_name (by decide +kernel), fun _ => rfl, k_X12_init⟩
theorem mt_187 : mtP 187 := ⟨q1562, rfl, plainFor_of_name (by decide +kernel), fun h => absurd h (by decide), k_X12_clear⟩
theorem mt_188 : mtP 188 := ⟨q1774, rfl, plainFor_of_name (by decide +kernel), fun h => absurd h (by decide), k_X12_add⟩
theorem mt_189 : mtP 189 := ⟨q735, rfl, plainFor_of_name (by decide +kernel), fun _ => rfl, k_X13_init⟩
theorem mt_190 : mtP 190 := ⟨q1943, rfl, plainFor_of_name (by decide +kernel), fun h => absurd h (by decide), k_X13_run⟩
theorem mt_191 : mtP 191 := ⟨q1947, rfl, plainFor_of_name (by decide +kernel), fun h => absurd h (by decide), k_X13_enter⟩
theorem mt_192 : mtP 192 := ⟨q1951, rfl, plainFor_of_name (by decide +kernel), fun h => absurd h (by decide), k_X13_step⟩
theorem mt_193 : mtP 193 := ⟨q1955, rfl, plainFor_of_name (by decide +kernel), fun h => absurd h (by decide), k_X13_compute⟩
theorem mt_194 : mtP 194 := ⟨q1959, rfl, plainFor_of_name (by decide +kernel), fun h => absurd h (by decide), k_X13_pop⟩
theorem mt_195 : mtP 195 := ⟨q1963, rfl, plainFor_of_name (by decide +kernel), fun h => absurd h (by decide), k_X13_push⟩
theorem mt_196 : mtP 196 := ⟨q1967, rfl, plainFor_of_name (by decide +kernel), fun h => absurd h (by decide), k_X13_raise⟩
theorem mt_197 : mtP 197 := ⟨q1971, rfl, plainFor_of_name (by decide +kernel), fun h => absurd h (by decide), k_X13_make⟩
theorem mt_198 : mtP 198 := ⟨q1975, rfl, plainFor_of_name (by decide +kernel), fun h => absurd h (by decide), k_X13_unwind⟩
theorem mt_199 : mtP 199 := ⟨q1979, rfl, plainFor_of_name (by decide +kernel), fun h => absurd h (by decide), k_X13_made⟩
theorem mt_200 : mtP 200 := ⟨q1983, rfl, plainFor_of_name (by decide +kernel), fun h => absurd h (by decide), k_X13_jump⟩
theorem mt_201 : mtP 201 := ⟨q1987, rfl, plainFor_of_name (by decide +kernel), fun h => absurd h (by decide), k_X13_heap⟩
theorem mt_202 : mtP 202 := ⟨q1991, rfl, plainFor_of_name (by decide +kernel), fun h => absurd h (by decide), k_X13_give⟩
theorem mt_203 : mtP 203 := ⟨q1995, rfl, plainFor_of_name (by decide +kernel), fun h => absurd h (by decide), k_X13_makeArray⟩
theorem mt_204 : mtP 204 := ⟨q1999, rfl, plainFor_of_name (by decide +kernel), fun h => absurd h (by decide), k_X13_wrong⟩
theorem mt_205 : mtP 205 := ⟨q2003, rfl, plainFor_of_name (by decide +kernel), fun h => absurd h (by decide), k_X13_length⟩
theorem mt_206 : mtP 206 := ⟨q2007, rfl, plainFor_of_name (by decide +kernel), fun h => absurd h (by decide), k_X13_element⟩
theorem mt_207 : mtP 207 := ⟨q2012, rfl, plainFor_of_name (by decide +kernel), fun h => absurd h (by decide), k_X13_isOf⟩
theorem mt_208 : mtP 208 := ⟨q2016, rfl, plainFor_of_name (by decide +kernel), fun h => absurd h (by decide), k_X13_field⟩
theorem mt_209 : mtP 209 := ⟨q2020, rfl, plainFor_of_name (by decide +kernel), fun h => absurd h (by decide), k_X13_cast⟩
theorem mt_210 : mtP 210 := ⟨q2024, rfl, plainFor_of_name (by decide +kernel), fun h => absurd h (by decide), k_X13_call⟩
theorem mt_211 : mtP 211 := ⟨q2028, rfl, plainFor_of_name (by decide +kernel), fun h => absurd h (by decide), k_X13_local⟩
theorem mt_212 : mtP 212 := ⟨q2033, rfl, plainFor_of_name (by decide +kernel), fun h => absurd h (by decide), k_X13_leave⟩
theorem mt_213 : mtP 213 := ⟨q2037, rfl, plainFor_of_name (by decide +kernel), fun h => absurd h (by decide), k_X13_simple⟩
theorem mt_214 : mtP 214 := ⟨q807, rfl, plainFor_of_name (by decide +kernel), fun _ => rfl, k_X14_init⟩
theorem mt_215 : mtP 215 := ⟨q1294, rfl, plainFor_of_name (by decide +kernel), fun h => absurd h (by decide), k_X14_clear⟩
theorem mt_216 : mtP 216 := ⟨q1354, rfl, plainFor_of_name (by decide +kernel), fun h => absurd h (by decide), k_X14_isClassBelow⟩
theorem mt_217 : mtP 217 := ⟨q1423, rfl, plainFor_of_name (by decide +kernel), fun h => absurd h (by decide), k_X14_goesOn⟩
theorem mt_218 : mtP 218 := ⟨q1450, rfl, plainFor_of_name (by decide +kernel), fun h => absurd h (by decide), k_X14_takes⟩
theorem mt_219 : mtP 219 := ⟨q1454, rfl, plainFor_of_name (by decide +kernel), fun h => absurd h (by decide), k_X14_leaves⟩
theorem mt_220 : mtP 220 := ⟨q1459, rfl, plainFor_of_name (by decide +kernel), fun h => absurd h (by decide), k_X14_isJump⟩
theorem mt_221 : mtP 221 := ⟨q1476, rfl, plainFor_of_name (by decide +kernel), fun h => absurd h (by decide), k_X14_join⟩
theorem mt_222 : mtP 222 := ⟨q1480, rfl, plainFor_of_name (by decide +kernel), fun h => absurd h (by decide), k_X14_isBelow⟩
theorem mt_223 : mtP 223 := ⟨q1485, rfl, plainFor_of_name (by decide +kernel), fun h => absurd h (by decide), k_X14_classJoin⟩
theorem mt_224 : mtP 224 := ⟨q1507, rfl, plainFor_of_name (by decide +kernel), fun h => absurd h (by decide), k_X14_isArray⟩
theorem mt_225 : mtP 225 := ⟨q1510, rfl, plainFor_of_name (by decide +kernel), fun h => absurd h (by decide), k_X14_element⟩
theorem mt_226 : mtP 226 := ⟨q1847, rfl, plainFor_of_name (by decide +kernel), fun h => absurd h (by decide), k_X14_method⟩
theorem mt_227 : mtP 227 := ⟨q2067, rfl, plainFor_of_name (by decide +kernel), fun _ => rfl, k_X15_init⟩
theorem mt_228 : mtP 228 := ⟨q2476, rfl, plainFor_of_name (by decide +kernel), fun h => absurd h (by decide), k_X15_feed⟩
theorem mt_229 : mtP 229 := ⟨q2481, rfl, plainFor_of_name (by decide +kernel), fun h => absurd h (by decide), k_X15_word⟩
theorem mt_230 : mtP 230 := ⟨q2485, rfl, plainFor_of_name (by decide +kernel), fun h => absurd h (by decide), k_X15_end⟩
theorem mt_231 : mtP 231 := ⟨q2489, rfl, plainFor_of_name (by decide +kernel), fun h => absurd h (by decide), k_X15_load⟩
theorem mt_232 : mtP 232 := ⟨q2493, rfl, plainFor_of_name (by decide +kernel), fun h => absurd h (by decide), k_X15_fault⟩
theorem mt_233 : mtP 233 := ⟨q2497, rfl, plainFor_of_name (by decide +kernel), fun h => absurd h (by decide), k_X15_cut⟩
theorem mt_234 : mtP 234 := ⟨q2501, rfl, plainFor_of_name (by decide +kernel), fun h => absurd h (by decide), k_X15_isProgram⟩
theorem mt_235 : mtP 235 := ⟨q2506, rfl, plainFor_of_name (by decide +kernel), fun h => absurd h (by decide), k_X15_is⟩
theorem mt_236 : mtP 236 := ⟨q2512, rfl, plainFor_of_name (by decide +kernel), fun h => absurd h (by decide), k_X15_takes⟩
theorem mt_237 : mtP 237 := ⟨q2516, rfl, plainFor_of_name (by decide +kernel), fun h => absurd h (by decide), k_X15_isClassName⟩
theorem mt_238 : mtP 238 := ⟨q2520, rfl, plainFor_of_name (by decide +kernel), fun h => absurd h (by decide), k_X15_isName⟩
theorem mt_239 : mtP 239 := ⟨q2527, rfl, plainFor_of_name (by decide +kernel), fun h => absurd h (by decide), k_X15_isMember⟩
theorem mt_240 : mtP 240 := ⟨q2532, rfl, plainFor_of_name (by decide +kernel), fun h => absurd h (by decide), k_X15_isSmallName⟩
theorem mt_241 : mtP 241 := ⟨q2536, rfl, plainFor_of_name (by decide +kernel), fun h => absurd h (by decide), k_X15_isType⟩
theorem mt_242 : mtP 242 := ⟨q2540, rfl, plainFor_of_name (by decide +kernel), fun h => absurd h (by decide), k_X15_isArray⟩
theorem mt_243 : mtP 243 := ⟨q2549, rfl, plainFor_of_name (by decide +kernel), fun h => absurd h (by decide), k_X15_isNumber⟩
theorem mt_244 : mtP 244 := ⟨q2553, rfl, plainFor_of_name (by decide +kernel), fun h => absurd h (by decide), k_X15_number⟩
theorem mt_245 : mtP 245 := ⟨q2561, rfl, plainFor_of_name (by decide +kernel), fun h => absurd h (by decide), k_X15_isLine⟩
theorem mt_246 : mtP 246 := ⟨q2565, rfl, plainFor_of_name (by decide +kernel), fun h => absurd h (by decide), k_X15_isLabel⟩
theorem mt_247 : mtP 247 := ⟨q2571, rfl, plainFor_of_name (by decide +kernel), fun h => absurd h (by decide), k_X15_opOf⟩
theorem mt_248 : mtP 248 := ⟨q2576, rfl, plainFor_of_name (by decide +kernel), fun h => absurd h (by decide), k_X15_among⟩
theorem mt_249 : mtP 249 := ⟨q2582, rfl, plainFor_of_name (by decide +kernel), fun h => absurd h (by decide), k_X15_isReference⟩
theorem mt_250 : mtP 250 := ⟨q2586, rfl, plainFor_of_name (by decide +kernel), fun h => absurd h (by decide), k_X15_point⟩
theorem mt_251 : mtP 251 := ⟨q2590, rfl, plainFor_of_name (by decide +kernel), fun h => absurd h (by decide), k_X15_classNames⟩
theorem mt_252 : mtP 252 := ⟨q2594, rfl, plainFor_of_name (by decide +kernel), fun h => absurd h (by decide), k_X15_classOfToken⟩
theorem mt_253 : mtP 253 := ⟨q2598, rfl, plainFor_of_name (by decide +kernel), fun h => absurd h (by decide), k_X15_classOf⟩
theorem mt_254 : mtP 254 := ⟨q2603, rfl, plainFor_of_name (by decide +kernel), fun h => absurd h (by decide), k_X15_classCount⟩
theorem mt_255 : mtP 255 := ⟨q2607, rfl, plainFor_of_name (by decide +kernel), fun h => absurd h (by decide), k_X15_isSame⟩
theorem mt_256 : mtP 256 := ⟨q2611, rfl, plainFor_of_name (by decide +kernel), fun h => absurd h (by decide), k_X15_wrong⟩
theorem mt_257 : mtP 257 := ⟨q2615, rfl, plainFor_of_name (by decide +kernel), fun h => absurd h (by decide), k_X15_behind⟩
theorem mt_258 : mtP 258 := ⟨q2619, rfl, plainFor_of_name (by decide +kernel), fun h => absurd h (by decide), k_X15_members⟩
theorem mt_259 : mtP 259 := ⟨q2623, rfl, plainFor_of_name (by decide +kernel), fun h => absurd h (by decide), k_X15_field⟩
theorem mt_260 : mtP 260 := ⟨q2627, rfl, plainFor_of_name (by decide +kernel), fun h => absurd h (by decide), k_X15_fieldOf⟩
theorem mt_261 : mtP 261 := ⟨q2630, rfl, plainFor_of_name (by decide +kernel), fun h => absurd h (by decide), k_X15_isAtOrBelow⟩
theorem mt_262 : mtP 262 := ⟨q2634, rfl, plainFor_of_name (by decide +kernel), fun h => absurd h (by decide), k_X15_typeOf⟩
theorem mt_263 : mtP 263 := ⟨q2638, rfl, plainFor_of_name (by decide +kernel), fun h => absurd h (by decide), k_X15_body⟩
theorem mt_264 : mtP 264 := ⟨q2642, rfl, plainFor_of_name (by decide +kernel), fun h => absurd h (by decide), k_X15_bodyOf⟩
theorem mt_265 : mtP 265 := ⟨q2646, rfl, plainFor_of_name (by decide +kernel), fun h => absurd h (by decide), k_X15_isSameRow⟩
theorem mt_266 : mtP 266 := ⟨q2650, rfl, plainFor_of_name (by decide +kernel), fun h => absurd h (by decide), k_X15_isSameToken⟩
theorem mt_267 : mtP 267 := ⟨q2655, rfl, plainFor_of_name (by decide +kernel), fun h => absurd h (by decide), k_X15_behindMember⟩
theorem mt_268 : mtP 268 := ⟨q2659, rfl, plainFor_of_name (by decide +kernel), fun h => absurd h (by decide), k_X15_lines⟩
theorem mt_269 : mtP 269 := ⟨q2663, rfl, plainFor_of_name (by decide +kernel), fun h => absurd h (by decide), k_X15_linesOf⟩
theorem mt_270 : mtP 270 := ⟨q2667, rfl, plainFor_of_name (by decide +kernel), fun h => absurd h (by decide), k_X15_lineLength⟩
theorem mt_271 : mtP 271 := ⟨q2671, rfl, plainFor_of_name (by decide +kernel), fun h => absurd h (by decide), k_X15_label⟩
theorem mt_272 : mtP 272 := ⟨q2675, rfl, plainFor_of_name (by decide +kernel), fun h => absurd h (by decide), k_X15_catchLine⟩
theorem mt_273 : mtP 273 := ⟨q2679, rfl, plainFor_of_name (by decide +kernel), fun h => absurd h (by decide), k_X15_labelAt⟩
theorem mt_274 : mtP 274 := ⟨q2683, rfl, plainFor_of_name (by decide +kernel), fun h => absurd h (by decide), k_X15_code⟩
theorem mt_275 : mtP 275 := ⟨q2687, rfl, plainFor_of_name (by decide +kernel), fun h => absurd h (by decide), k_X15_thresholds⟩
theorem mt_276 : mtP 276 := ⟨q2691, rfl, plainFor_of_name (by decide +kernel), fun h => absurd h (by decide), k_X15_threshold⟩
theorem mt_277 : mtP 277 := ⟨q2695, rfl, plainFor_of_name (by decide +kernel), fun h => absurd h (by decide), k_X15_localStep⟩
theorem mt_278 : mtP 278 := ⟨q2699, rfl, plainFor_of_name (by decide +kernel), fun h => absurd h (by decide), k_X15_madeStep⟩
theorem mt_279 : mtP 279 := ⟨q2703, rfl, plainFor_of_name (by decide +kernel), fun h => absurd h (by decide), k_X15_reference⟩
theorem mt_280 : mtP 280 := ⟨q2707, rfl, plainFor_of_name (by decide +kernel), fun h => absurd h (by decide), k_X15_settled⟩
theorem mt_281 : mtP 281 := ⟨q2715, rfl, plainFor_of_name (by decide +kernel), fun h => absurd h (by decide), k_X15_heights⟩
theorem mt_282 : mtP 282 := ⟨q2719, rfl, plainFor_of_name (by decide +kernel), fun h => absurd h (by decide), k_X15_goodHeights⟩
theorem mt_283 : mtP 283 := ⟨q2722, rfl, plainFor_of_name (by decide +kernel), fun h => absurd h (by decide), k_X15_howMany⟩
theorem mt_284 : mtP 284 := ⟨q2725, rfl, plainFor_of_name (by decide +kernel), fun h => absurd h (by decide), k_X15_leaves⟩
theorem mt_285 : mtP 285 := ⟨q2728, rfl, plainFor_of_name (by decide +kernel), fun h => absurd h (by decide), k_X15_hasNext⟩
theorem mt_286 : mtP 286 := ⟨q2732, rfl, plainFor_of_name (by decide +kernel), fun h => absurd h (by decide), k_X15_added⟩
theorem mt_287 : mtP 287 := ⟨q2735, rfl, plainFor_of_name (by decide +kernel), fun h => absurd h (by decide), k_X15_hasLabel⟩
theorem mt_288 : mtP 288 := ⟨q2738, rfl, plainFor_of_name (by decide +kernel), fun h => absurd h (by decide), k_X15_covers⟩
theorem mt_289 : mtP 289 := ⟨q2742, rfl, plainFor_of_name (by decide +kernel), fun h => absurd h (by decide), k_X15_types⟩
theorem mt_290 : mtP 290 := ⟨q2746, rfl, plainFor_of_name (by decide +kernel), fun h => absurd h (by decide), k_X15_typesOn⟩
theorem mt_291 : mtP 291 := ⟨q2750, rfl, plainFor_of_name (by decide +kernel), fun h => absurd h (by decide), k_X15_typesAt⟩
theorem mt_292 : mtP 292 := ⟨q2754, rfl, plainFor_of_name (by decide +kernel), fun h => absurd h (by decide), k_X15_typesTo⟩
theorem mt_293 : mtP 293 := ⟨q2757, rfl, plainFor_of_name (by decide +kernel), fun h => absurd h (by decide), k_X15_joined⟩
theorem mt_294 : mtP 294 := ⟨q2760, rfl, plainFor_of_name (by decide +kernel), fun h => absurd h (by decide), k_X15_isBelow⟩
theorem mt_295 : mtP 295 := ⟨q2763, rfl, plainFor_of_name (by decide +kernel), fun h => absurd h (by decide), k_X15_isClass⟩
theorem mt_296 : mtP 296 := ⟨q2767, rfl, plainFor_of_name (by decide +kernel), fun h => absurd h (by decide), k_X15_typesBehind⟩
theorem mt_297 : mtP 297 := ⟨q2771, rfl, plainFor_of_name (by decide +kernel), fun h => absurd h (by decide), k_X15_leave⟩
theorem mt_298 : mtP 298 := ⟨q2774, rfl, plainFor_of_name (by decide +kernel), fun h => absurd h (by decide), k_X15_elementOf⟩
theorem mt_299 : mtP 299 := ⟨q2778, rfl, plainFor_of_name (by decide +kernel), fun h => absurd h (by decide), k_X15_fits⟩
theorem mt_300 : mtP 300 := ⟨q2781, rfl, plainFor_of_name (by decide +kernel), fun h => absurd h (by decide), k_X15_isReferenceType⟩
theorem mt_301 : mtP 301 := ⟨q2784, rfl, plainFor_of_name (by decide +kernel), fun h => absurd h (by decide), k_X15_isArrayType⟩
theorem mt_302 : mtP 302 := ⟨q2787, rfl, plainFor_of_name (by decide +kernel), fun h => absurd h (by decide), k_X15_isElement⟩
theorem mt_303 : mtP 303 := ⟨q2791, rfl, plainFor_of_name (by decide +kernel), fun h => absurd h (by decide), k_X15_areArguments⟩
theorem mt_304 : mtP 304 := ⟨q2795, rfl, plainFor_of_name (by decide +kernel), fun h => absurd h (by decide), k_X15_prove⟩
theorem mt_305 : mtP 305 := ⟨q2799, rfl, plainFor_of_name (by decide +kernel), fun h => absurd h (by decide), k_X15_begin⟩
theorem mt_306 : mtP 306 := ⟨q2803, rfl, plainFor_of_name (by decide +kernel), fun h => absurd h (by decide), k_X15_clear⟩
theorem mt_307 : mtP 307 := ⟨q2807, rfl, plainFor_of_name (by decide +kernel), fun h => absurd h (by decide), k_X15_bring⟩
theorem mt_308 : mtP 308 := ⟨q2811, rfl, plainFor_of_name (by decide +kernel), fun h => absurd h (by decide), k_X15_joinSlot⟩
theorem mt_309 : mtP 309 := ⟨q2818, rfl, plainFor_of_name (by decide +kernel), fun h => absurd h (by decide), k_X15_look⟩
theorem mt_310 : mtP 310 := ⟨q2822, rfl, plainFor_of_name (by decide +kernel), fun h => absurd h (by decide), k_X15_fetch⟩
theorem mt_311 : mtP 311 := ⟨q2826, rfl, plainFor_of_name (by decide +kernel), fun h => absurd h (by decide), k_X15_way⟩
theorem mt_312 : mtP 312 := ⟨q2832, rfl, plainFor_of_name (by decide +kernel), fun h => absurd h (by decide), k_X15_keeps⟩
theorem mt_313 : mtP 313 := ⟨q2836, rfl, plainFor_of_name (by decide +kernel), fun h => absurd h (by decide), k_X15_ordered⟩
theorem mt_314 : mtP 314 := ⟨q2841, rfl, plainFor_of_name (by decide +kernel), fun h => absurd h (by decide), k_X15_notBelow⟩
theorem mt_315 : mtP 315 := ⟨q2844, rfl, plainFor_of_name (by decide +kernel), fun h => absurd h (by decide), k_X15_notAbove⟩
theorem mt_316 : mtP 316 := ⟨q2848, rfl, plainFor_of_name (by decide +kernel), fun h => absurd h (by decide), k_X15_alike⟩
theorem mt_317 : mtP 317 := ⟨q2852, rfl, plainFor_of_name (by decide +kernel), fun h => absurd h (by decide), k_X15_apart⟩
theorem mt_318 : mtP 318 := ⟨q2856, rfl, plainFor_of_name (by decide +kernel), fun h => absurd h (by decide), k_X15_without⟩
theorem mt_319 : mtP 319 := ⟨q2860, rfl, plainFor_of_name (by decide +kernel), fun h => absurd h (by decide), k_X15_rangeToLocal⟩
theorem mt_320 : mtP 320 := ⟨q2864, rfl, plainFor_of_name (by decide +kernel), fun h => absurd h (by decide), k_X15_goOn⟩
theorem mt_321 : mtP 321 := ⟨q2867, rfl, plainFor_of_name (by decide +kernel), fun h => absurd h (by decide), k_X15_contrary⟩
theorem mt_322 : mtP 322 := ⟨q2871, rfl, plainFor_of_name (by decide +kernel), fun h => absurd h (by decide), k_X15_goesBehind⟩
theorem mt_323 : mtP 323 := ⟨q2875, rfl, plainFor_of_name (by decide +kernel), fun h => absurd h (by decide), k_X15_leaveRange⟩
theorem mt_324 : mtP 324 := ⟨q2879, rfl, plainFor_of_name (by decide +kernel), fun h => absurd h (by decide), k_X15_range⟩
theorem mt_325 : mtP 325 := ⟨q2885, rfl, plainFor_of_name (by decide +kernel), fun h => absurd h (by decide), k_X15_leaveSites⟩
theorem mt_326 : mtP 326 := ⟨q2889, rfl, plainFor_of_name (by decide +kernel), fun h => absurd h (by decide), k_X15_put⟩
theorem mt_327 : mtP 327 := ⟨q2893, rfl, plainFor_of_name (by decide +kernel), fun h => absurd h (by decide), k_X15_changing⟩
theorem mt_328 : mtP 328 := ⟨q2897, rfl, plainFor_of_name (by decide +kernel), fun h => absurd h (by decide), k_X15_made⟩
theorem mt_329 : mtP 329 := ⟨q2901, rfl, plainFor_of_name (by decide +kernel), fun h => absurd h (by decide), k_X15_joinNothing⟩
theorem mt_330 : mtP 330 := ⟨q2905, rfl, plainFor_of_name (by decide +kernel), fun h => absurd h (by decide), k_X15_joinRange⟩
theorem mt_331 : mtP 331 := ⟨q2909, rfl, plainFor_of_name (by decide +kernel), fun h => absurd h (by decide), k_X15_joinSites⟩
theorem mt_332 : mtP 332 := ⟨q2913, rfl, plainFor_of_name (by decide +kernel), fun h => absurd h (by decide), k_X15_madeArray⟩
theorem mt_333 : mtP 333 := ⟨q2917, rfl, plainFor_of_name (by decide +kernel), fun h => absurd h (by decide), k_X15_lengthOf⟩
theorem mt_334 : mtP 334 := ⟨q2921, rfl, plainFor_of_name (by decide +kernel), fun h => absurd h (by decide), k_X15_dereference⟩
theorem mt_335 : mtP 335 := ⟨q2925, rfl, plainFor_of_name (by decide +kernel), fun h => absurd h (by decide), k_X15_leaveValues⟩
theorem mt_336 : mtP 336 := ⟨q2929, rfl, plainFor_of_name (by decide +kernel), fun h => absurd h (by decide), k_X15_element⟩
theorem mt_337 : mtP 337 := ⟨q2933, rfl, plainFor_of_name (by decide +kernel), fun h => absurd h (by decide), k_X15_index⟩
theorem mt_338 : mtP 338 := ⟨q2938, rfl, plainFor_of_name (by decide +kernel), fun h => absurd h (by decide), k_X15_joinSlotInto⟩
theorem mt_339 : mtP 339 := ⟨q2941, rfl, plainFor_of_name (by decide +kernel), fun h => absurd h (by decide), k_X15_sitesBelow⟩
theorem mt_340 : mtP 340 := ⟨q2945, rfl, plainFor_of_name (by decide +kernel), fun h => absurd h (by decide), k_X15_fieldStep⟩
theorem mt_341 : mtP 341 := ⟨q2949, rfl, plainFor_of_name (by decide +kernel), fun h => absurd h (by decide), k_X15_ofType⟩
theorem mt_342 : mtP 342 := ⟨q2953, rfl, plainFor_of_name (by decide +kernel), fun h => absurd h (by decide), k_X15_call⟩
theorem mt_343 : mtP 343 := ⟨q2957, rfl, plainFor_of_name (by decide +kernel), fun h => absurd h (by decide), k_X15_given⟩
theorem mt_344 : mtP 344 := ⟨q2961, rfl, plainFor_of_name (by decide +kernel), fun h => absurd h (by decide), k_X15_numbers⟩
theorem mt_345 : mtP 345 := ⟨q2965, rfl, plainFor_of_name (by decide +kernel), fun h => absurd h (by decide), k_X15_product⟩
theorem mt_346 : mtP 346 := ⟨q2969, rfl, plainFor_of_name (by decide +kernel), fun h => absurd h (by decide), k_X15_quotient⟩
theorem mt_347 : mtP 347 := ⟨q2973, rfl, plainFor_of_name (by decide +kernel), fun h => absurd h (by decide), k_X15_raisedByZero⟩
theorem mt_348 : mtP 348 := ⟨q2977, rfl, plainFor_of_name (by decide +kernel), fun h => absurd h (by decide), k_X15_rest⟩
theorem mt_349 : mtP 349 := ⟨q2983, rfl, plainFor_of_name (by decide +kernel), fun h => absurd h (by decide), k_X15_faultAt⟩
theorem mt_350 : mtP 350 := ⟨q2987, rfl, plainFor_of_name (by decide +kernel), fun h => absurd h (by decide), k_X15_size⟩
theorem mt_351 : mtP 351 := ⟨q2991, rfl, plainFor_of_name (by decide +kernel), fun h => absurd h (by decide), k_X15_errors⟩
theorem mt_352 : mtP 352 := ⟨q2995, rfl, plainFor_of_name (by decide +kernel), fun h => absurd h (by decide), k_X15_isCode⟩
theorem mt_353 : mtP 353 := ⟨q2999, rfl, plainFor_of_name (by decide +kernel), fun h => absurd h (by decide), k_X15_escapes⟩
theorem mt_354 : mtP 354 := ⟨q3003, rfl, plainFor_of_name (by decide +kernel), fun h => absurd h (by decide), k_X15_ends⟩
theorem mt_355 : mtP 355 := ⟨q3007, rfl, plainFor_of_name (by decide +kernel), fun h => absurd h (by decide), k_X15_kind⟩
theorem mt_356 : mtP 356 := ⟨q3011, rfl, plainFor_of_name (by decide +kernel), fun h => absurd h (by decide), k_X15_slot⟩
theorem mt_357 : mtP 357 := ⟨q3015, rfl, plainFor_of_name (by decide +kernel), fun h => absurd h (by decide), k_X15_low⟩
theorem mt_358 : mtP 358 := ⟨q3020, rfl, plainFor_of_name (by decide +kernel), fun h => absurd h (by decide), k_X15_high⟩
theorem mt_359 : mtP 359 := ⟨q3024, rfl, plainFor_of_name (by decide +kernel), fun h => absurd h (by decide), k_X15_sites⟩
theorem mt_360 : mtP 360 := ⟨q3028, rfl, plainFor_of_name (by decide +kernel), fun h => absurd h (by decide), k_X15_fact⟩
theorem mt_361 : mtP 361 := ⟨q3032, rfl, plainFor_of_name (by decide +kernel), fun h => absurd h (by decide), k_X15_lengths⟩
theorem mt_362 : mtP 362 := ⟨q3036, rfl, plainFor_of_name (by decide +kernel), fun h => absurd h (by decide), k_X15_input⟩
theorem mt_363 : mtP 363 := ⟨q3040, rfl, plainFor_of_name (by decide +kernel), fun h => absurd h (by decide), k_X15_run⟩
theorem mt_364 : mtP 364 := ⟨q3044, rfl, plainFor_of_name (by decide +kernel), fun h => absurd h (by decide), k_X15_enter⟩
theorem mt_365 : mtP 365 := ⟨q3049, rfl, plainFor_of_name (by decide +kernel), fun h => absurd h (by decide), k_X15_holds⟩
theorem mt_366 : mtP 366 := ⟨q3053, rfl, plainFor_of_name (by decide +kernel), fun h => absurd h (by decide), k_X15_local⟩
theorem mt_367 : mtP 367 := ⟨q3057, rfl, plainFor_of_name (by decide +kernel), fun h => absurd h (by decide), k_X15_isHeld⟩
theorem mt_368 : mtP 368 := ⟨q3060, rfl, plainFor_of_name (by decide +kernel), fun h => absurd h (by decide), k_X15_isInt⟩
theorem mt_369 : mtP 369 := ⟨q3065, rfl, plainFor_of_name (by decide +kernel), fun h => absurd h (by decide), k_X15_siteOf⟩
theorem mt_370 : mtP 370 := ⟨q3068, rfl, plainFor_of_name (by decide +kernel), fun h => absurd h (by decide), k_X15_objectOf⟩
theorem mt_371 : mtP 371 := ⟨q3072, rfl, plainFor_of_name (by decide +kernel), fun h => absurd h (by decide), k_X15_isArrayValue⟩
theorem mt_372 : mtP 372 := ⟨q3075, rfl, plainFor_of_name (by decide +kernel), fun h => absurd h (by decide), k_X15_isObject⟩
theorem mt_373 : mtP 373 := ⟨q3079, rfl, plainFor_of_name (by decide +kernel), fun h => absurd h (by decide), k_X15_step⟩
theorem mt_374 : mtP 374 := ⟨q3083, rfl, plainFor_of_name (by decide +kernel), fun h => absurd h (by decide), k_X15_push⟩
theorem mt_375 : mtP 375 := ⟨q3087, rfl, plainFor_of_name (by decide +kernel), fun h => absurd h (by decide), k_X15_pop⟩
theorem mt_376 : mtP 376 := ⟨q3091, rfl, plainFor_of_name (by decide +kernel), fun h => absurd h (by decide), k_X15_reckon⟩
theorem mt_377 : mtP 377 := ⟨q3095, rfl, plainFor_of_name (by decide +kernel), fun h => absurd h (by decide), k_X15_raise⟩
theorem mt_378 : mtP 378 := ⟨q3099, rfl, plainFor_of_name (by decide +kernel), fun h => absurd h (by decide), k_X15_object⟩
theorem mt_379 : mtP 379 := ⟨q3103, rfl, plainFor_of_name (by decide +kernel), fun h => absurd h (by decide), k_X15_ended⟩
theorem mt_380 : mtP 380 := ⟨q3107, rfl, plainFor_of_name (by decide +kernel), fun h => absurd h (by decide), k_X15_toss⟩
theorem mt_381 : mtP 381 := ⟨q3111, rfl, plainFor_of_name (by decide +kernel), fun h => absurd h (by decide), k_X15_next⟩
theorem mt_382 : mtP 382 := ⟨q3115, rfl, plainFor_of_name (by decide +kernel), fun h => absurd h (by decide), k_X15_branch⟩
theorem mt_383 : mtP 383 := ⟨q3119, rfl, plainFor_of_name (by decide +kernel), fun h => absurd h (by decide), k_X15_objectStep⟩
theorem mt_384 : mtP 384 := ⟨q3123, rfl, plainFor_of_name (by decide +kernel), fun h => absurd h (by decide), k_X15_make⟩
theorem mt_385 : mtP 385 := ⟨q3127, rfl, plainFor_of_name (by decide +kernel), fun h => absurd h (by decide), k_X15_elementStep⟩
theorem mt_386 : mtP 386 := ⟨q3131, rfl, plainFor_of_name (by decide +kernel), fun h => absurd h (by decide), k_X15_callStep⟩
theorem mt_387 : mtP 387 := ⟨q3135, rfl, plainFor_of_name (by decide +kernel), fun h => absurd h (by decide), k_X15_steps⟩
theorem mt_388 : mtP 388 := ⟨q3139, rfl, plainFor_of_name (by decide +kernel), fun h => absurd h (by decide), k_X15_place⟩
theorem mt_389 : mtP 389 := ⟨q3143, rfl, plainFor_of_name (by decide +kernel), fun h => absurd h (by decide), k_X15_thrown⟩
theorem mt_390 : mtP 390 := ⟨q3147, rfl, plainFor_of_name (by decide +kernel), fun h => absurd h (by decide), k_X15_written⟩
theorem mt_391 : mtP 391 := ⟨q3151, rfl, plainFor_of_name (by decide +kernel), fun h => absurd h (by decide), k_X15_out⟩
theorem mt_392 : mtP 392 := ⟨q3155, rfl, plainFor_of_name (by decide +kernel), fun h => absurd h (by decide), k_X15_strays⟩
theorem mt_393 : mtP 393 := ⟨q2073, rfl, plainFor_of_name (by decide +kernel), fun _ => rfl, k_X16_init⟩
theorem mt_394 : mtP 394 := ⟨q1121, rfl, by decide +kernel, fun h => absurd h (by decide), k_J5_min⟩
theorem mt_395 : mtP 395 := ⟨q1611, rfl, by decide +kernel, fun h => absurd h (by decide), k_J5_max⟩
theorem mt_396 : mtP 396 := ⟨q1662, rfl, by decide +kernel, fun h => absurd h (by decide), k_J5_max_2⟩
theorem mt_397 : mtP 397 := ⟨q1665, rfl, by decide +kernel, fun h => absurd h (by decide), k_J5_min_2⟩
theorem mt_398 : mtP 398 := ⟨q1742, rfl, by decide +kernel, fun h => absurd h (by decide), k_J5_abs⟩
theorem mt_all {m : Nat} (h : m ≤ 399) (n4 : m ≠ 4) (n399 : m ≠ 399) : mtP m := mt_s (K := 199) (fun b199 => mt_s (K := 99) (fun b99 => mt_s (K := 49) (fun b49 => mt_s (K := 24) (fun b24 => mt_s (K := 12) (fun b12 => mt_s (K := 6) (fun b6 => mt_s (K := 3) (fun b3 => mt_s (K := 1) (fun b1 => mt_s (K := 0) (fun b0 => mt_l (P := mtP) mt_0 (Nat.zero_le m) b0) (fun a0 => mt_l (P := mtP) mt_1 a0 b1)) (fun a1 => mt_s (K := 2) (fun b2 => mt_l (P := mtP) mt_2 a1 b2) (fun a2 => mt_l (P := mtP) mt_3 a2 b3))) (fun a3 => mt_s (K := 5) (fun b5 => mt_s (K := 4) (fun b4 => absurd (Nat.le_antisymm b4 a3) n4) (fun a4 => mt_l (P := mtP) mt_5 a4 b5)) (fun a5 => mt_l (P := mtP) mt_6 a5 b6))) (fun a6 => mt_s (K := 9) (fun b9 => mt_s (K := 8) (fun b8 => mt_s (K := 7) (fun b7 => mt_l (P := mtP) mt_7 a6 b7) (fun a7 => mt_l (P := mtP) mt_8 a7 b8)) (fun a8 => mt_l (P := mtP) mt_9 a8 b9)) (fun a9 => mt_s (K := 11) (fun b11 => mt_s (K := 10) (fun b10 => mt_l (P := mtP) mt_10 a9 b10) (fun a10 => mt_l (P := mtP) mt_11 a10 b11)) (fun a11 => mt_l (P := mtP) mt_12 a11 b12)))) (fun a12 => mt_s (K := 18) (fun b18 => mt_s (K := 15) (fun b15 => mt_s (K := 14) (fun b14 => mt_s (K := 13) (fun b13 => mt_l (P := mtP) mt_13 a12 b13) (fun a13 => mt_l (P := mtP) mt_14 a13 b14)) (fun a14 => mt_l (P := mtP) mt_15 a14 b15)) (fun a15 => mt_s (K := 17) (fun b17 => mt_s (K := 16) (fun b16 => mt_l (P := mtP) mt_16 a15 b16) (fun a16 => mt_l (P := mtP) mt_17 a16 b17)) (fun a17 => mt_l (P := mtP) mt_18 a17 b18))) (fun a18 => mt_s (K := 21) (fun b21 => mt_s (K := 20) (fun b20 => mt_s (K := 19) (fun b19 => mt_l (P := mtP) mt_19 a18 b19) (fun a19 => mt_l (P := mtP) mt_20 a19 b20)) (fun a20 => mt_l (P := mtP) mt_21 a20 b21)) (fun a21 => mt_s (K := 23) (fun b23 => mt_s (K := 22) (fun b22 => mt_l (P := mtP) mt_22 a21 b22) (fun a22 => mt_l (P := mtP) mt_23 a22 b23)) (fun a23 => mt_l (P := mtP) mt_24 a23 b24))))) (fun a24 => mt_s (K := 37) (fun b37 => mt_s (K := 31) (fun b31 => mt_s (K := 28) (fun b28 => mt_s (K := 26) (fun b26 => mt_s (K := 25) (fun b25 => mt_l (P := mtP) mt_25 a24 b25) (fun a25 => mt_l (P := mtP) mt_26 a25 b26)) (fun a26 => mt_s (K := 27) (fun b27 => mt_l (P := mtP) mt_27 a26 b27) (fun a27 => mt_l (P := mtP) mt_28 a27 b28))) (fun a28 => mt_s (K := 30) (fun b30 => mt_s (K := 29) (fun b29 => mt_l (P := mtP) mt_29 a28 b29) (fun a29 => mt_l (P := mtP) mt_30 a29 b30)) (fun a30 => mt_l (P := mtP) mt_31 a30 b31))) (fun a31 => mt_s (K := 34) (fun b34 => mt_s (K := 33) (fun b33 => mt_s (K := 32) (fun b32 => mt_l (P := mtP) mt_32 a31 b32) (fun a32 => mt_l (P := mtP) mt_33 a32 b33)) (fun a33 => mt_l (P := mtP) mt_34 a33 b34)) (fun a34 => mt_s (K := 36) (fun b36 => mt_s (K := 35) (fun b35 => mt_l (P := mtP) mt_35 a34 b35) (fun a35 => mt_l (P := mtP) mt_36 a35 b36)) (fun a36 => mt_l (P := mtP) mt_37 a36 b37)))) (fun a37 => mt_s (K := 43) (fun b43 => mt_s (K := 40) (fun b40 => mt_s (K := 39) (fun b39 => mt_s (K := 38) (fun b38 => mt_l (P := mtP) mt_38 a37 b38) (fun a38 => mt_l (P := mtP) mt_39 a38 b39)) (fun a39 => mt_l (P := mtP) mt_40 a39 b40)) (fun a40 => mt_s (K := 42) (fun b42 => mt_s (K := 41) (fun b41 => mt_l (P := mtP) mt_41 a40 b41) (fun a41 => mt_l (P := mtP) mt_42 a41 b42)) (fun a42 => mt_l (P := mtP) mt_43 a42 b43))) (fun a43 => mt_s (K := 46) (fun b46 => mt_s (K := 45) (fun b45 => mt_s (K := 44) (fun b44 => mt_l (P := mtP) mt_44 a43 b44) (fun a44 => mt_l (P := mtP) mt_45 a44 b45)) (fun a45 => mt_l (P := mtP) mt_46 a45 b46)) (fun a46 => mt_s (K := 48) (fun b48 => mt_s (K := 47) (fun b47 => mt_l (P := mtP) mt_47 a46 b47) (fun a47 => mt_l (P := mtP) mt_48 a47 b48)) (fun a48 => mt_l (P := mtP) mt_49 a48 b49)))))) (fun a49 => mt_s (K := 74) (fun b74 => mt_s (K := 62) (fun b62 => mt_s (K := 56) (fun b56 => mt_s (K := 53) (fun b53 => mt_s (K := 51) (fun b51 => mt_s (K := 50) (fun b50 => mt_l (P := mtP) mt_50 a49 b50) (fun a50 => mt_l (P := mtP) mt_51 a50 b51)) (fun a51 => mt_s (K := 52) (fun b52 => mt_l (P := mtP) mt_52 a51 b52) (fun a52 => mt_l (P := mtP) mt_53 a52 b53))) (fun a53 => mt_s (K := 55) (fun b55 => mt_s (K := 54) (fun b54 => mt_l (P := mtP) mt_54 a53 b54) (fun a54 => mt_l (P := mtP) mt_55 a54 b55)) (fun a55 => mt_l (P := mtP) mt_56 a55 b56))) (fun a56 => mt_s (K := 59) (fun b59 => mt_s (K := 58) (fun b58 => mt_s (K := 57) (fun b57 => mt_l (P := mtP) mt_57 a56 b57) (fun a57 => mt_l (P := mtP) mt_58 a57 b58)) (fun a58 => mt_l (P := mtP) mt_59 a58 b59)) (fun a59 => mt_s (K := 61) (fun b61 => mt_s (K := 60) (fun b60 => mt_l (P := mtP) mt_60 a59 b60) (fun a60 => mt_l (P := mtP) mt_61 a60 b61)) (fun a61 => mt_l (P := mtP) mt_62 a61 b62)))) (fun a62 => mt_s (K := 68) (fun b68 => mt_s (K := 65) (fun b65 => mt_s (K := 64) (fun b64 => mt_s (K := 63) (fun b63 => mt_l (P := mtP) mt_63 a62 b63) (fun a63 => mt_l (P := mtP) mt_64 a63 b64)) (fun a64 => mt_l (P := mtP) mt_65 a64 b65)) (fun a65 => mt_s (K := 67) (fun b67 => mt_s (K := 66) (fun b66 => mt_l (P := mtP) mt_66 a65 b66) (fun a66 => mt_l (P := mtP) mt_67 a66 b67)) (fun a67 => mt_l (P := mtP) mt_68 a67 b68))) (fun a68 => mt_s (K := 71) (fun b71 => mt_s (K := 70) (fun b70 => mt_s (K := 69) (fun b69 => mt_l (P := mtP) mt_69 a68 b69) (fun a69 => mt_l (P := mtP) mt_70 a69 b70)) (fun a70 => mt_l (P := mtP) mt_71 a70 b71)) (fun a71 => mt_s (K := 73) (fun b73 => mt_s (K := 72) (fun b72 => mt_l (P := mtP) mt_72 a71 b72) (fun a72 => mt_l (P := mtP) mt_73 a72 b73)) (fun a73 => mt_l (P := mtP) mt_74 a73 b74))))) (fun a74 => mt_s (K := 87) (fun b87 => mt_s (K := 81) (fun b81 => mt_s (K := 78) (fun b78 => mt_s (K := 76) (fun b76 => mt_s (K := 75) (fun b75 => mt_l (P := mtP) mt_75 a74 b75) (fun a75 => mt_l (P := mtP) mt_76 a75 b76)) (fun a76 => mt_s (K := 77) (fun b77 => mt_l (P := mtP) mt_77 a76 b77) (fun a77 => mt_l (P := mtP) mt_78 a77 b78))) (fun a78 => mt_s (K := 80) (fun b80 => mt_s (K := 79) (fun b79 => mt_l (P := mtP) mt_79 a78 b79) (fun a79 => mt_l (P := mtP) mt_80 a79 b80)) (fun a80 => mt_l (P := mtP) mt_81 a80 b81))) (fun a81 => mt_s (K := 84) (fun b84 => mt_s (K := 83) (fun b83 => mt_s (K := 82) (fun b82 => mt_l (P := mtP) mt_82 a81 b82) (fun a82 => mt_l (P := mtP) mt_83 a82 b83)) (fun a83 => mt_l (P := mtP) mt_84 a83 b84)) (fun a84 => mt_s (K := 86) (fun b86 => mt_s (K := 85) (fun b85 => mt_l (P := mtP) mt_85 a84 b85) (fun a85 => mt_l (P := mtP) mt_86 a85 b86)) (fun a86 => mt_l (P := mtP) mt_87 a86 b87)))) (fun a87 => mt_s (K := 93) (fun b93 => mt_s (K := 90) (fun b90 => mt_s (K := 89) (fun b89 => mt_s (K := 88) (fun b88 => mt_l (P := mtP) mt_88 a87 b88) (fun a88 => mt_l (P := mtP) mt_89 a88 b89)) (fun a89 => mt_l (P := mtP) mt_90 a89 b90)) (fun a90 => mt_s (K := 92) (fun b92 => mt_s (K := 91) (fun b91 => mt_l (P := mtP) mt_91 a90 b91) (fun a91 => mt_l (P := mtP) mt_92 a91 b92)) (fun a92 => mt_l (P := mtP) mt_93 a92 b93))) (fun a93 => mt_s (K := 96) (fun b96 => mt_s (K := 95) (fun b95 => mt_s (K := 94) (fun b94 => mt_l (P := mtP) mt_94 a93 b94) (fun a94 => mt_l (P := mtP) mt_95 a94 b95)) (fun a95 => mt_l (P := mtP) mt_96 a95 b96)) (fun a96 => mt_s (K := 98) (fun b98 => mt_s (K := 97) (fun b97 => mt_l (P := mtP) mt_97 a96 b97) (fun a97 => mt_l (P := mtP) mt_98 a97 b98)) (fun a98 => mt_l (P := mtP) mt_99 a98 b99))))))) (fun a99 => mt_s (K := 149) (fun b149 => mt_s (K := 124) (fun b124 => mt_s (K := 112) (fun b112 => mt_s (K := 106) (fun b106 => mt_s (K := 103) (fun b103 => mt_s (K := 101) (fun b101 => mt_s (K := 100) (fun b100 => mt_l (P := mtP) mt_100 a99 b100) (fun a100 => mt_l (P := mtP) mt_101 a100 b101)) (fun a101 => mt_s (K := 102) (fun b102 => mt_l (P := mtP) mt_102 a101 b102) (fun a102 => mt_l (P := mtP) mt_103 a102 b103))) (fun a103 => mt_s (K := 105) (fun b105 => mt_s (K := 104) (fun b104 => mt_l (P := mtP) mt_104 a103 b104) (fun a104 => mt_l (P := mtP) mt_105 a104 b105)) (fun a105 => mt_l (P := mtP) mt_106 a105 b106))) (fun a106 => mt_s (K := 109) (fun b109 => mt_s (K := 108) (fun b108 => mt_s (K := 107) (fun b107 => mt_l (P := mtP) mt_107 a106 b107) (fun a107 => mt_l (P := mtP) mt_108 a107 b108)) (fun a108 => mt_l (P := mtP) mt_109 a108 b109)) (fun a109 => mt_s (K := 111) (fun b111 => mt_s (K := 110) (fun b110 => mt_l (P := mtP) mt_110 a109 b110) (fun a110 => mt_l (P := mtP) mt_111 a110 b111)) (fun a111 => mt_l (P := mtP) mt_112 a111 b112)))) (fun a112 => mt_s (K := 118) (fun b118 => mt_s (K := 115) (fun b115 => mt_s (K := 114) (fun b114 => mt_s (K := 113) (fun b113 => mt_l (P := mtP) mt_113 a112 b113) (fun a113 => mt_l (P := mtP) mt_114 a113 b114)) (fun a114 => mt_l (P := mtP) mt_115 a114 b115)) (fun a115 => mt_s (K := 117) (fun b117 => mt_s (K := 116) (fun b116 => mt_l (P := mtP) mt_116 a115 b116) (fun a116 => mt_l (P := mtP) mt_117 a116 b117)) (fun a117 => mt_l (P := mtP) mt_118 a117 b118))) (fun a118 => mt_s (K := 121) (fun b121 => mt_s (K := 120) (fun b120 => mt_s (K := 119) (fun b119 => mt_l (P := mtP) mt_119 a118 b119) (fun a119 => mt_l (P := mtP) mt_120 a119 b120)) (fun a120 => mt_l (P := mtP) mt_121 a120 b121)) (fun a121 => mt_s (K := 123) (fun b123 => mt_s (K := 122) (fun b122 => mt_l (P := mtP) mt_122 a121 b122) (fun a122 => mt_l (P := mtP) mt_123 a122 b123)) (fun a123 => mt_l (P := mtP) mt_124 a123 b124))))) (fun a124 => mt_s (K := 137) (fun b137 => mt_s (K := 131) (fun b131 => mt_s (K := 128) (fun b128 => mt_s (K := 126) (fun b126 => mt_s (K := 125) (fun b125 => mt_l (P := mtP) mt_125 a124 b125) (fun a125 => mt_l (P := mtP) mt_126 a125 b126)) (fun a126 => mt_s (K := 127) (fun b127 => mt_l (P := mtP) mt_127 a126 b127) (fun a127 => mt_l (P := mtP) mt_128 a127 b128))) (fun a128 => mt_s (K := 130) (fun b130 => mt_s (K := 129) (fun b129 => mt_l (P := mtP) mt_129 a128 b129) (fun a129 => mt_l (P := mtP) mt_130 a129 b130)) (fun a130 => mt_l (P := mtP) mt_131 a130 b131))) (fun a131 => mt_s (K := 134) (fun b134 => mt_s (K := 133) (fun b133 => mt_s (K := 132) (fun b132 => mt_l (P := mtP) mt_132 a131 b132) (fun a132 => mt_l (P := mtP) mt_133 a132 b133)) (fun a133 => mt_l (P := mtP) mt_134 a133 b134)) (fun a134 => mt_s (K := 136) (fun b136 => mt_s (K := 135) (fun b135 => mt_l (P := mtP) mt_135 a134 b135) (fun a135 => mt_l (P := mtP) mt_136 a135 b136)) (fun a136 => mt_l (P := mtP) mt_137 a136 b137)))) (fun a137 => mt_s (K := 143) (fun b143 => mt_s (K := 140) (fun b140 => mt_s (K := 139) (fun b139 => mt_s (K := 138) (fun b138 => mt_l (P := mtP) mt_138 a137 b138) (fun a138 => mt_l (P := mtP) mt_139 a138 b139)) (fun a139 => mt_l (P := mtP) mt_140 a139 b140)) (fun a140 => mt_s (K := 142) (fun b142 => mt_s (K := 141) (fun b141 => mt_l (P := mtP) mt_141 a140 b141) (fun a141 => mt_l (P := mtP) mt_142 a141 b142)) (fun a142 => mt_l (P := mtP) mt_143 a142 b143))) (fun a143 => mt_s (K := 146) (fun b146 => mt_s (K := 145) (fun b145 => mt_s (K := 144) (fun b144 => mt_l (P := mtP) mt_144 a143 b144) (fun a144 => mt_l (P := mtP) mt_145 a144 b145)) (fun a145 => mt_l (P := mtP) mt_146 a145 b146)) (fun a146 => mt_s (K := 148) (fun b148 => mt_s (K := 147) (fun b147 => mt_l (P := mtP) mt_147 a146 b147) (fun a147 => mt_l (P := mtP) mt_148 a147 b148)) (fun a148 => mt_l (P := mtP) mt_149 a148 b149)))))) (fun a149 => mt_s (K := 174) (fun b174 => mt_s (K := 162) (fun b162 => mt_s (K := 156) (fun b156 => mt_s (K := 153) (fun b153 => mt_s (K := 151) (fun b151 => mt_s (K := 150) (fun b150 => mt_l (P := mtP) mt_150 a149 b150) (fun a150 => mt_l (P := mtP) mt_151 a150 b151)) (fun a151 => mt_s (K := 152) (fun b152 => mt_l (P := mtP) mt_152 a151 b152) (fun a152 => mt_l (P := mtP) mt_153 a152 b153))) (fun a153 => mt_s (K := 155) (fun b155 => mt_s (K := 154) (fun b154 => mt_l (P := mtP) mt_154 a153 b154) (fun a154 => mt_l (P := mtP) mt_155 a154 b155)) (fun a155 => mt_l (P := mtP) mt_156 a155 b156))) (fun a156 => mt_s (K := 159) (fun b159 => mt_s (K := 158) (fun b158 => mt_s (K := 157) (fun b157 => mt_l (P := mtP) mt_157 a156 b157) (fun a157 => mt_l (P := mtP) mt_158 a157 b158)) (fun a158 => mt_l (P := mtP) mt_159 a158 b159)) (fun a159 => mt_s (K := 161) (fun b161 => mt_s (K := 160) (fun b160 => mt_l (P := mtP) mt_160 a159 b160) (fun a160 => mt_l (P := mtP) mt_161 a160 b161)) (fun a161 => mt_l (P := mtP) mt_162 a161 b162)))) (fun a162 => mt_s (K := 168) (fun b168 => mt_s (K := 165) (fun b165 => mt_s (K := 164) (fun b164 => mt_s (K := 163) (fun b163 => mt_l (P := mtP) mt_163 a162 b163) (fun a163 => mt_l (P := mtP) mt_164 a163 b164)) (fun a164 => mt_l (P := mtP) mt_165 a164 b165)) (fun a165 => mt_s (K := 167) (fun b167 => mt_s (K := 166) (fun b166 => mt_l (P := mtP) mt_166 a165 b166) (fun a166 => mt_l (P := mtP) mt_167 a166 b167)) (fun a167 => mt_l (P := mtP) mt_168 a167 b168))) (fun a168 => mt_s (K := 171) (fun b171 => mt_s (K := 170) (fun b170 => mt_s (K := 169) (fun b169 => mt_l (P := mtP) mt_169 a168 b169) (fun a169 => mt_l (P := mtP) mt_170 a169 b170)) (fun a170 => mt_l (P := mtP) mt_171 a170 b171)) (fun a171 => mt_s (K := 173) (fun b173 => mt_s (K := 172) (fun b172 => mt_l (P := mtP) mt_172 a171 b172) (fun a172 => mt_l (P := mtP) mt_173 a172 b173)) (fun a173 => mt_l (P := mtP) mt_174 a173 b174))))) (fun a174 => mt_s (K := 187) (fun b187 => mt_s (K := 181) (fun b181 => mt_s (K := 178) (fun b178 => mt_s (K := 176) (fun b176 => mt_s (K := 175) (fun b175 => mt_l (P := mtP) mt_175 a174 b175) (fun a175 => mt_l (P := mtP) mt_176 a175 b176)) (fun a176 => mt_s (K := 177) (fun b177 => mt_l (P := mtP) mt_177 a176 b177) (fun a177 => mt_l (P := mtP) mt_178 a177 b178))) (fun a178 => mt_s (K := 180) (fun b180 => mt_s (K := 179) (fun b179 => mt_l (P := mtP) mt_179 a178 b179) (fun a179 => mt_l (P := mtP) mt_180 a179 b180)) (fun a180 => mt_l (P := mtP) mt_181 a180 b181))) (fun a181 => mt_s (K := 184) (fun b184 => mt_s (K := 183) (fun b183 => mt_s (K := 182) (fun b182 => mt_l (P := mtP) mt_182 a181 b182) (fun a182 => mt_l (P := mtP) mt_183 a182 b183)) (fun a183 => mt_l (P := mtP) mt_184 a183 b184)) (fun a184 => mt_s (K := 186) (fun b186 => mt_s (K := 185) (fun b185 => mt_l (P := mtP) mt_185 a184 b185) (fun a185 => mt_l (P := mtP) mt_186 a185 b186)) (fun a186 => mt_l (P := mtP) mt_187 a186 b187)))) (fun a187 => mt_s (K := 193) (fun b193 => mt_s (K := 190) (fun b190 => mt_s (K := 189) (fun b189 => mt_s (K := 188) (fun b188 => mt_l (P := mtP) mt_188 a187 b188) (fun a188 => mt_l (P := mtP) mt_189 a188 b189)) (fun a189 => mt_l (P := mtP) mt_190 a189 b190)) (fun a190 => mt_s (K := 192) (fun b192 => mt_s (K := 191) (fun b191 => mt_l (P := mtP) mt_191 a190 b191) (fun a191 => mt_l (P := mtP) mt_192 a191 b192)) (fun a192 => mt_l (P := mtP) mt_193 a192 b193))) (fun a193 => mt_s (K := 196) (fun b196 => mt_s (K := 195) (fun b195 => mt_s (K := 194) (fun b194 => mt_l (P := mtP) mt_194 a193 b194) (fun a194 => mt_l (P := mtP) mt_195 a194 b195)) (fun a195 => mt_l (P := mtP) mt_196 a195 b196)) (fun a196 => mt_s (K := 198) (fun b198 => mt_s (K := 197) (fun b197 => mt_l (P := mtP) mt_197 a196 b197) (fun a197 => mt_l (P := mtP) mt_198 a197 b198)) (fun a198 => mt_l (P := mtP) mt_199 a198 b199)))))))) (fun a199 => mt_s (K := 299) (fun b299 => mt_s (K := 249) (fun b249 => mt_s (K := 224) (fun b224 => mt_s (K := 212) (fun b212 => mt_s (K := 206) (fun b206 => mt_s (K := 203) (fun b203 => mt_s (K := 201) (fun b201 => mt_s (K := 200) (fun b200 => mt_l (P := mtP) mt_200 a199 b200) (fun a200 => mt_l (P := mtP) mt_201 a200 b201)) (fun a201 => mt_s (K := 202) (fun b202 => mt_l (P := mtP) mt_202 a201 b202) (fun a202 => mt_l (P := mtP) mt_203 a202 b203))) (fun a203 => mt_s (K := 205) (fun b205 => mt_s (K := 204) (fun b204 => mt_l (P := mtP) mt_204 a203 b204) (fun a204 => mt_l (P := mtP) mt_205 a204 b205)) (fun a205 => mt_l (P := mtP) mt_206 a205 b206))) (fun a206 => mt_s (K := 209) (fun b209 => mt_s (K := 208) (fun b208 => mt_s (K := 207) (fun b207 => mt_l (P := mtP) mt_207 a206 b207) (fun a207 => mt_l (P := mtP) mt_208 a207 b208)) (fun a208 => mt_l (P := mtP) mt_209 a208 b209)) (fun a209 => mt_s (K := 211) (fun b211 => mt_s (K := 210) (fun b210 => mt_l (P := mtP) mt_210 a209 b210) (fun a210 => mt_l (P := mtP) mt_211 a210 b211)) (fun a211 => mt_l (P := mtP) mt_212 a211 b212)))) (fun a212 => mt_s (K := 218) (fun b218 => mt_s (K := 215) (fun b215 => mt_s (K := 214) (fun b214 => mt_s (K := 213) (fun b213 => mt_l (P := mtP) mt_213 a212 b213) (fun a213 => mt_l (P := mtP) mt_214 a213 b214)) (fun a214 => mt_l (P := mtP) mt_215 a214 b215)) (fun a215 => mt_s (K := 217) (fun b217 => mt_s (K := 216) (fun b216 => mt_l (P := mtP) mt_216 a215 b216) (fun a216 => mt_l (P := mtP) mt_217 a216 b217)) (fun a217 => mt_l (P := mtP) mt_218 a217 b218))) (fun a218 => mt_s (K := 221) (fun b221 => mt_s (K := 220) (fun b220 => mt_s (K := 219) (fun b219 => mt_l (P := mtP) mt_219 a218 b219) (fun a219 => mt_l (P := mtP) mt_220 a219 b220)) (fun a220 => mt_l (P := mtP) mt_221 a220 b221)) (fun a221 => mt_s (K := 223) (fun b223 => mt_s (K := 222) (fun b222 => mt_l (P := mtP) mt_222 a221 b222) (fun a222 => mt_l (P := mtP) mt_223 a222 b223)) (fun a223 => mt_l (P := mtP) mt_224 a223 b224))))) (fun a224 => mt_s (K := 237) (fun b237 => mt_s (K := 231) (fun b231 => mt_s (K := 228) (fun b228 => mt_s (K := 226) (fun b226 => mt_s (K := 225) (fun b225 => mt_l (P := mtP) mt_225 a224 b225) (fun a225 => mt_l (P := mtP) mt_226 a225 b226)) (fun a226 => mt_s (K := 227) (fun b227 => mt_l (P := mtP) mt_227 a226 b227) (fun a227 => mt_l (P := mtP) mt_228 a227 b228))) (fun a228 => mt_s (K := 230) (fun b230 => mt_s (K := 229) (fun b229 => mt_l (P := mtP) mt_229 a228 b229) (fun a229 => mt_l (P := mtP) mt_230 a229 b230)) (fun a230 => mt_l (P := mtP) mt_231 a230 b231))) (fun a231 => mt_s (K := 234) (fun b234 => mt_s (K := 233) (fun b233 => mt_s (K := 232) (fun b232 => mt_l (P := mtP) mt_232 a231 b232) (fun a232 => mt_l (P := mtP) mt_233 a232 b233)) (fun a233 => mt_l (P := mtP) mt_234 a233 b234)) (fun a234 => mt_s (K := 236) (fun b236 => mt_s (K := 235) (fun b235 => mt_l (P := mtP) mt_235 a234 b235) (fun a235 => mt_l (P := mtP) mt_236 a235 b236)) (fun a236 => mt_l (P := mtP) mt_237 a236 b237)))) (fun a237 => mt_s (K := 243) (fun b243 => mt_s (K := 240) (fun b240 => mt_s (K := 239) (fun b239 => mt_s (K := 238) (fun b238 => mt_l (P := mtP) mt_238 a237 b238) (fun a238 => mt_l (P := mtP) mt_239 a238 b239)) (fun a239 => mt_l (P := mtP) mt_240 a239 b240)) (fun a240 => mt_s (K := 242) (fun b242 => mt_s (K := 241) (fun b241 => mt_l (P := mtP) mt_241 a240 b241) (fun a241 => mt_l (P := mtP) mt_242 a241 b242)) (fun a242 => mt_l (P := mtP) mt_243 a242 b243))) (fun a243 => mt_s (K := 246) (fun b246 => mt_s (K := 245) (fun b245 => mt_s (K := 244) (fun b244 => mt_l (P := mtP) mt_244 a243 b244) (fun a244 => mt_l (P := mtP) mt_245 a244 b245)) (fun a245 => mt_l (P := mtP) mt_246 a245 b246)) (fun a246 => mt_s (K := 248) (fun b248 => mt_s (K := 247) (fun b247 => mt_l (P := mtP) mt_247 a246 b247) (fun a247 => mt_l (P := mtP) mt_248 a247 b248)) (fun a248 => mt_l (P := mtP) mt_249 a248 b249)))))) (fun a249 => mt_s (K := 274) (fun b274 => mt_s (K := 262) (fun b262 => mt_s (K := 256) (fun b256 => mt_s (K := 253) (fun b253 => mt_s (K := 251) (fun b251 => mt_s (K := 250) (fun b250 => mt_l (P := mtP) mt_250 a249 b250) (fun a250 => mt_l (P := mtP) mt_251 a250 b251)) (fun a251 => mt_s (K := 252) (fun b252 => mt_l (P := mtP) mt_252 a251 b252) (fun a252 => mt_l (P := mtP) mt_253 a252 b253))) (fun a253 => mt_s (K := 255) (fun b255 => mt_s (K := 254) (fun b254 => mt_l (P := mtP) mt_254 a253 b254) (fun a254 => mt_l (P := mtP) mt_255 a254 b255)) (fun a255 => mt_l (P := mtP) mt_256 a255 b256))) (fun a256 => mt_s (K := 259) (fun b259 => mt_s (K := 258) (fun b258 => mt_s (K := 257) (fun b257 => mt_l (P := mtP) mt_257 a256 b257) (fun a257 => mt_l (P := mtP) mt_258 a257 b258)) (fun a258 => mt_l (P := mtP) mt_259 a258 b259)) (fun a259 => mt_s (K := 261) (fun b261 => mt_s (K := 260) (fun b260 => mt_l (P := mtP) mt_260 a259 b260) (fun a260 => mt_l (P := mtP) mt_261 a260 b261)) (fun a261 => mt_l (P := mtP) mt_262 a261 b262)))) (fun a262 => mt_s (K := 268) (fun b268 => mt_s (K := 265) (fun b265 => mt_s (K := 264) (fun b264 => mt_s (K := 263) (fun b263 => mt_l (P := mtP) mt_263 a262 b263) (fun a263 => mt_l (P := mtP) mt_264 a263 b264)) (fun a264 => mt_l (P := mtP) mt_265 a264 b265)) (fun a265 => mt_s (K := 267) (fun b267 => mt_s (K := 266) (fun b266 => mt_l (P := mtP) mt_266 a265 b266) (fun a266 => mt_l (P := mtP) mt_267 a266 b267)) (fun a267 => mt_l (P := mtP) mt_268 a267 b268))) (fun a268 => mt_s (K := 271) (fun b271 => mt_s (K := 270) (fun b270 => mt_s (K := 269) (fun b269 => mt_l (P := mtP) mt_269 a268 b269) (fun a269 => mt_l (P := mtP) mt_270 a269 b270)) (fun a270 => mt_l (P := mtP) mt_271 a270 b271)) (fun a271 => mt_s (K := 273) (fun b273 => mt_s (K := 272) (fun b272 => mt_l (P := mtP) mt_272 a271 b272) (fun a272 => mt_l (P := mtP) mt_273 a272 b273)) (fun a273 => mt_l (P := mtP) mt_274 a273 b274))))) (fun a274 => mt_s (K := 287) (fun b287 => mt_s (K := 281) (fun b281 => mt_s (K := 278) (fun b278 => mt_s (K := 276) (fun b276 => mt_s (K := 275) (fun b275 => mt_l (P := mtP) mt_275 a274 b275) (fun a275 => mt_l (P := mtP) mt_276 a275 b276)) (fun a276 => mt_s (K := 277) (fun b277 => mt_l (P := mtP) mt_277 a276 b277) (fun a277 => mt_l (P := mtP) mt_278 a277 b278))) (fun a278 => mt_s (K := 280) (fun b280 => mt_s (K := 279) (fun b279 => mt_l (P := mtP) mt_279 a278 b279) (fun a279 => mt_l (P := mtP) mt_280 a279 b280)) (fun a280 => mt_l (P := mtP) mt_281 a280 b281))) (fun a281 => mt_s (K := 284) (fun b284 => mt_s (K := 283) (fun b283 => mt_s (K := 282) (fun b282 => mt_l (P := mtP) mt_282 a281 b282) (fun a282 => mt_l (P := mtP) mt_283 a282 b283)) (fun a283 => mt_l (P := mtP) mt_284 a283 b284)) (fun a284 => mt_s (K := 286) (fun b286 => mt_s (K := 285) (fun b285 => mt_l (P := mtP) mt_285 a284 b285) (fun a285 => mt_l (P := mtP) mt_286 a285 b286)) (fun a286 => mt_l (P := mtP) mt_287 a286 b287)))) (fun a287 => mt_s (K := 293) (fun b293 => mt_s (K := 290) (fun b290 => mt_s (K := 289) (fun b289 => mt_s (K := 288) (fun b288 => mt_l (P := mtP) mt_288 a287 b288) (fun a288 => mt_l (P := mtP) mt_289 a288 b289)) (fun a289 => mt_l (P := mtP) mt_290 a289 b290)) (fun a290 => mt_s (K := 292) (fun b292 => mt_s (K := 291) (fun b291 => mt_l (P := mtP) mt_291 a290 b291) (fun a291 => mt_l (P := mtP) mt_292 a291 b292)) (fun a292 => mt_l (P := mtP) mt_293 a292 b293))) (fun a293 => mt_s (K := 296) (fun b296 => mt_s (K := 295) (fun b295 => mt_s (K := 294) (fun b294 => mt_l (P := mtP) mt_294 a293 b294) (fun a294 => mt_l (P := mtP) mt_295 a294 b295)) (fun a295 => mt_l (P := mtP) mt_296 a295 b296)) (fun a296 => mt_s (K := 298) (fun b298 => mt_s (K := 297) (fun b297 => mt_l (P := mtP) mt_297 a296 b297) (fun a297 => mt_l (P := mtP) mt_298 a297 b298)) (fun a298 => mt_l (P := mtP) mt_299 a298 b299))))))) (fun a299 => mt_s (K := 349) (fun b349 => mt_s (K := 324) (fun b324 => mt_s (K := 312) (fun b312 => mt_s (K := 306) (fun b306 => mt_s (K := 303) (fun b303 => mt_s (K := 301) (fun b301 => mt_s (K := 300) (fun b300 => mt_l (P := mtP) mt_300 a299 b300) (fun a300 => mt_l (P := mtP) mt_301 a300 b301)) (fun a301 => mt_s (K := 302) (fun b302 => mt_l (P := mtP) mt_302 a301 b302) (fun a302 => mt_l (P := mtP) mt_303 a302 b303))) (fun a303 => mt_s (K := 305) (fun b305 => mt_s (K := 304) (fun b304 => mt_l (P := mtP) mt_304 a303 b304) (fun a304 => mt_l (P := mtP) mt_305 a304 b305)) (fun a305 => mt_l (P := mtP) mt_306 a305 b306))) (fun a306 => mt_s (K := 309) (fun b309 => mt_s (K := 308) (fun b308 => mt_s (K := 307) (fun b307 => mt_l (P := mtP) mt_307 a306 b307) (fun a307 => mt_l (P := mtP) mt_308 a307 b308)) (fun a308 => mt_l (P := mtP) mt_309 a308 b309)) (fun a309 => mt_s (K := 311) (fun b311 => mt_s (K := 310) (fun b310 => mt_l (P := mtP) mt_310 a309 b310) (fun a310 => mt_l (P := mtP) mt_311 a310 b311)) (fun a311 => mt_l (P := mtP) mt_312 a311 b312)))) (fun a312 => mt_s (K := 318) (fun b318 => mt_s (K := 315) (fun b315 => mt_s (K := 314) (fun b314 => mt_s (K := 313) (fun b313 => mt_l (P := mtP) mt_313 a312 b313) (fun a313 => mt_l (P := mtP) mt_314 a313 b314)) (fun a314 => mt_l (P := mtP) mt_315 a314 b315)) (fun a315 => mt_s (K := 317) (fun b317 => mt_s (K := 316) (fun b316 => mt_l (P := mtP) mt_316 a315 b316) (fun a316 => mt_l (P := mtP) mt_317 a316 b317)) (fun a317 => mt_l (P := mtP) mt_318 a317 b318))) (fun a318 => mt_s (K := 321) (fun b321 => mt_s (K := 320) (fun b320 => mt_s (K := 319) (fun b319 => mt_l (P := mtP) mt_319 a318 b319) (fun a319 => mt_l (P := mtP) mt_320 a319 b320)) (fun a320 => mt_l (P := mtP) mt_321 a320 b321)) (fun a321 => mt_s (K := 323) (fun b323 => mt_s (K := 322) (fun b322 => mt_l (P := mtP) mt_322 a321 b322) (fun a322 => mt_l (P := mtP) mt_323 a322 b323)) (fun a323 => mt_l (P := mtP) mt_324 a323 b324))))) (fun a324 => mt_s (K := 337) (fun b337 => mt_s (K := 331) (fun b331 => mt_s (K := 328) (fun b328 => mt_s (K := 326) (fun b326 => mt_s (K := 325) (fun b325 => mt_l (P := mtP) mt_325 a324 b325) (fun a325 => mt_l (P := mtP) mt_326 a325 b326)) (fun a326 => mt_s (K := 327) (fun b327 => mt_l (P := mtP) mt_327 a326 b327) (fun a327 => mt_l (P := mtP) mt_328 a327 b328))) (fun a328 => mt_s (K := 330) (fun b330 => mt_s (K := 329) (fun b329 => mt_l (P := mtP) mt_329 a328 b329) (fun a329 => mt_l (P := mtP) mt_330 a329 b330)) (fun a330 => mt_l (P := mtP) mt_331 a330 b331))) (fun a331 => mt_s (K := 334) (fun b334 => mt_s (K := 333) (fun b333 => mt_s (K := 332) (fun b332 => mt_l (P := mtP) mt_332 a331 b332) (fun a332 => mt_l (P := mtP) mt_333 a332 b333)) (fun a333 => mt_l (P := mtP) mt_334 a333 b334)) (fun a334 => mt_s (K := 336) (fun b336 => mt_s (K := 335) (fun b335 => mt_l (P := mtP) mt_335 a334 b335) (fun a335 => mt_l (P := mtP) mt_336 a335 b336)) (fun a336 => mt_l (P := mtP) mt_337 a336 b337)))) (fun a337 => mt_s (K := 343) (fun b343 => mt_s (K := 340) (fun b340 => mt_s (K := 339) (fun b339 => mt_s (K := 338) (fun b338 => mt_l (P := mtP) mt_338 a337 b338) (fun a338 => mt_l (P := mtP) mt_339 a338 b339)) (fun a339 => mt_l (P := mtP) mt_340 a339 b340)) (fun a340 => mt_s (K := 342) (fun b342 => mt_s (K := 341) (fun b341 => mt_l (P := mtP) mt_341 a340 b341) (fun a341 => mt_l (P := mtP) mt_342 a341 b342)) (fun a342 => mt_l (P := mtP) mt_343 a342 b343))) (fun a343 => mt_s (K := 346) (fun b346 => mt_s (K := 345) (fun b345 => mt_s (K := 344) (fun b344 => mt_l (P := mtP) mt_344 a343 b344) (fun a344 => mt_l (P := mtP) mt_345 a344 b345)) (fun a345 => mt_l (P := mtP) mt_346 a345 b346)) (fun a346 => mt_s (K := 348) (fun b348 => mt_s (K := 347) (fun b347 => mt_l (P := mtP) mt_347 a346 b347) (fun a347 => mt_l (P := mtP) mt_348 a347 b348)) (fun a348 => mt_l (P := mtP) mt_349 a348 b349)))))) (fun a349 => mt_s (K := 374) (fun b374 => mt_s (K := 362) (fun b362 => mt_s (K := 356) (fun b356 => mt_s (K := 353) (fun b353 => mt_s (K := 351) (fun b351 => mt_s (K := 350) (fun b350 => mt_l (P := mtP) mt_350 a349 b350) (fun a350 => mt_l (P := mtP) mt_351 a350 b351)) (fun a351 => mt_s (K := 352) (fun b352 => mt_l (P := mtP) mt_352 a351 b352) (fun a352 => mt_l (P := mtP) mt_353 a352 b353))) (fun a353 => mt_s (K := 355) (fun b355 => mt_s (K := 354) (fun b354 => mt_l (P := mtP) mt_354 a353 b354) (fun a354 => mt_l (P := mtP) mt_355 a354 b355)) (fun a355 => mt_l (P := mtP) mt_356 a355 b356))) (fun a356 => mt_s (K := 359) (fun b359 => mt_s (K := 358) (fun b358 => mt_s (K := 357) (fun b357 => mt_l (P := mtP) mt_357 a356 b357) (fun a357 => mt_l (P := mtP) mt_358 a357 b358)) (fun a358 => mt_l (P := mtP) mt_359 a358 b359)) (fun a359 => mt_s (K := 361) (fun b361 => mt_s (K := 360) (fun b360 => mt_l (P := mtP) mt_360 a359 b360) (fun a360 => mt_l (P := mtP) mt_361 a360 b361)) (fun a361 => mt_l (P := mtP) mt_362 a361 b362)))) (fun a362 => mt_s (K := 368) (fun b368 => mt_s (K := 365) (fun b365 => mt_s (K := 364) (fun b364 => mt_s (K := 363) (fun b363 => mt_l (P := mtP) mt_363 a362 b363) (fun a363 => mt_l (P := mtP) mt_364 a363 b364)) (fun a364 => mt_l (P := mtP) mt_365 a364 b365)) (fun a365 => mt_s (K := 367) (fun b367 => mt_s (K := 366) (fun b366 => mt_l (P := mtP) mt_366 a365 b366) (fun a366 => mt_l (P := mtP) mt_367 a366 b367)) (fun a367 => mt_l (P := mtP) mt_368 a367 b368))) (fun a368 => mt_s (K := 371) (fun b371 => mt_s (K := 370) (fun b370 => mt_s (K := 369) (fun b369 => mt_l (P := mtP) mt_369 a368 b369) (fun a369 => mt_l (P := mtP) mt_370 a369 b370)) (fun a370 => mt_l (P := mtP) mt_371 a370 b371)) (fun a371 => mt_s (K := 373) (fun b373 => mt_s (K := 372) (fun b372 => mt_l (P := mtP) mt_372 a371 b372) (fun a372 => mt_l (P := mtP) mt_373 a372 b373)) (fun a373 => mt_l (P := mtP) mt_374 a373 b374))))) (fun a374 => mt_s (K := 387) (fun b387 => mt_s (K := 381) (fun b381 => mt_s (K := 378) (fun b378 => mt_s (K := 376) (fun b376 => mt_s (K := 375) (fun b375 => mt_l (P := mtP) mt_375 a374 b375) (fun a375 => mt_l (P := mtP) mt_376 a375 b376)) (fun a376 => mt_s (K := 377) (fun b377 => mt_l (P := mtP) mt_377 a376 b377) (fun a377 => mt_l (P := mtP) mt_378 a377 b378))) (fun a378 => mt_s (K := 380) (fun b380 => mt_s (K := 379) (fun b379 => mt_l (P := mtP) mt_379 a378 b379) (fun a379 => mt_l (P := mtP) mt_380 a379 b380)) (fun a380 => mt_l (P := mtP) mt_381 a380 b381))) (fun a381 => mt_s (K := 384) (fun b384 => mt_s (K := 383) (fun b383 => mt_s (K := 382) (fun b382 => mt_l (P := mtP) mt_382 a381 b382) (fun a382 => mt_l (P := mtP) mt_383 a382 b383)) (fun a383 => mt_l (P := mtP) mt_384 a383 b384)) (fun a384 => mt_s (K := 386) (fun b386 => mt_s (K := 385) (fun b385 => mt_l (P := mtP) mt_385 a384 b385) (fun a385 => mt_l (P := mtP) mt_386 a385 b386)) (fun a386 => mt_l (P := mtP) mt_387 a386 b387)))) (fun a387 => mt_s (K := 393) (fun b393 => mt_s (K := 390) (fun b390 => mt_s (K := 389) (fun b389 => mt_s (K := 388) (fun b388 => mt_l (P := mtP) mt_388 a387 b388) (fun a388 => mt_l (P := mtP) mt_389 a388 b389)) (fun a389 => mt_l (P := mtP) mt_390 a389 b390)) (fun a390 => mt_s (K := 392) (fun b392 => mt_s (K := 391) (fun b391 => mt_l (P := mtP) mt_391 a390 b391) (fun a391 => mt_l (P := mtP) mt_392 a391 b392)) (fun a392 => mt_l (P := mtP) mt_393 a392 b393))) (fun a393 => mt_s (K := 396) (fun b396 => mt_s (K := 395) (fun b395 => mt_s (K := 394) (fun b394 => mt_l (P := mtP) mt_394 a393 b394) (fun a394 => mt_l (P := mtP) mt_395 a394 b395)) (fun a395 => mt_l (P := mtP) mt_396 a395 b396)) (fun a396 => mt_s (K := 398) (fun b398 => mt_s (K := 397) (fun b397 => mt_l (P := mtP) mt_397 a396 b397) (fun a397 => mt_l (P := mtP) mt_398 a397 b398)) (fun a398 => absurd (Nat.le_antisymm h a398) n399))))))))
