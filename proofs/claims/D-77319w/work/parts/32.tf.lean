/-! what the tables hold (printed by gen_e.py) -/
set_option maxRecDepth 100000
theorem hc0 : am_code 0 = cX0_init := rfl
theorem ho0 : am_cls 0 = 0 := rfl
theorem hst0 : am_stc 0 = false := rfl
theorem hnp0 : am_np 0 = 0 := rfl
theorem hml0 : am_maxL 0 = 2 := rfl
theorem hlsl0 : am_lsl 0 = [] := rfl
theorem hc1 : am_code 1 = cX0_setOld := rfl
theorem ho1 : am_cls 1 = 0 := rfl
theorem hst1 : am_stc 1 = false := rfl
theorem hnp1 : am_np 1 = 3 := rfl
theorem hml1 : am_maxL 1 = 4 := rfl
theorem hlsl1 : am_lsl 1 = [] := rfl
theorem hc2 : am_code 2 = cX0_set := rfl
theorem ho2 : am_cls 2 = 0 := rfl
theorem hst2 : am_stc 2 = false := rfl
theorem hnp2 : am_np 2 = 5 := rfl
theorem hml2 : am_maxL 2 = 7 := rfl
theorem hlsl2 : am_lsl 2 = [] := rfl
theorem hc3 : am_code 3 = cX0_isFunction := rfl
theorem ho3 : am_cls 3 = 0 := rfl
theorem hst3 : am_stc 3 = true := rfl
theorem hnp3 : am_np 3 = 1 := rfl
theorem hml3 : am_maxL 3 = 1 := rfl
theorem hlsl3 : am_lsl 3 = [] := rfl
theorem hc4 : am_code 4 = cX0_inRange := rfl
theorem ho4 : am_cls 4 = 0 := rfl
theorem hst4 : am_stc 4 = true := rfl
theorem hnp4 : am_np 4 = 3 := rfl
theorem hml4 : am_maxL 4 = 3 := rfl
theorem hlsl4 : am_lsl 4 = [] := rfl
theorem hc5 : am_code 5 = cX0_error := rfl
theorem ho5 : am_cls 5 = 0 := rfl
theorem hst5 : am_stc 5 = false := rfl
theorem hnp5 : am_np 5 = 1 := rfl
theorem hml5 : am_maxL 5 = 2 := rfl
theorem hlsl5 : am_lsl 5 = [] := rfl
theorem hc6 : am_code 6 = cX0_save := rfl
theorem ho6 : am_cls 6 = 0 := rfl
theorem hst6 : am_stc 6 = false := rfl
theorem hnp6 : am_np 6 = 0 := rfl
theorem hml6 : am_maxL 6 = 2 := rfl
theorem hlsl6 : am_lsl 6 = [] := rfl
theorem hc7 : am_code 7 = cX0_setNew := rfl
theorem ho7 : am_cls 7 = 0 := rfl
theorem hst7 : am_stc 7 = false := rfl
theorem hnp7 : am_np 7 = 3 := rfl
theorem hml7 : am_maxL 7 = 4 := rfl
theorem hlsl7 : am_lsl 7 = [] := rfl
theorem hc8 : am_code 8 = cX0_setOldTerm := rfl
theorem ho8 : am_cls 8 = 0 := rfl
theorem hst8 : am_stc 8 = false := rfl
theorem hnp8 : am_np 8 = 3 := rfl
theorem hml8 : am_maxL 8 = 4 := rfl
theorem hlsl8 : am_lsl 8 = [] := rfl
theorem hc9 : am_code 9 = cX0_setTerm := rfl
theorem ho9 : am_cls 9 = 0 := rfl
theorem hst9 : am_stc 9 = false := rfl
theorem hnp9 : am_np 9 = 4 := rfl
theorem hml9 : am_maxL 9 = 6 := rfl
theorem hlsl9 : am_lsl 9 = [] := rfl
theorem hc10 : am_code 10 = cX0_setNewTerm := rfl
theorem ho10 : am_cls 10 = 0 := rfl
theorem hst10 : am_stc 10 = false := rfl
theorem hnp10 : am_np 10 = 3 := rfl
theorem hml10 : am_maxL 10 = 4 := rfl
theorem hlsl10 : am_lsl 10 = [] := rfl
theorem hc11 : am_code 11 = cX0_map := rfl
theorem ho11 : am_cls 11 = 0 := rfl
theorem hst11 : am_stc 11 = false := rfl
theorem hnp11 : am_np 11 = 2 := rfl
theorem hml11 : am_maxL 11 = 4 := rfl
theorem hlsl11 : am_lsl 11 = [] := rfl
theorem hc12 : am_code 12 = cX0_faithful := rfl
theorem ho12 : am_cls 12 = 0 := rfl
theorem hst12 : am_stc 12 = false := rfl
theorem hnp12 : am_np 12 = 1 := rfl
theorem hml12 : am_maxL 12 = 2 := rfl
theorem hlsl12 : am_lsl 12 = [] := rfl
theorem hc13 : am_code 13 = cX0_unmap := rfl
theorem ho13 : am_cls 13 = 0 := rfl
theorem hst13 : am_stc 13 = false := rfl
theorem hnp13 : am_np 13 = 1 := rfl
theorem hml13 : am_maxL 13 = 3 := rfl
theorem hlsl13 : am_lsl 13 = [] := rfl
theorem hc14 : am_code 14 = cX0_setSource := rfl
theorem ho14 : am_cls 14 = 0 := rfl
theorem hst14 : am_stc 14 = false := rfl
theorem hnp14 : am_np 14 = 3 := rfl
theorem hml14 : am_maxL 14 = 4 := rfl
theorem hlsl14 : am_lsl 14 = [] := rfl
theorem hc15 : am_code 15 = cX0_setEntry := rfl
theorem ho15 : am_cls 15 = 0 := rfl
theorem hst15 : am_stc 15 = false := rfl
theorem hnp15 : am_np 15 = 4 := rfl
theorem hml15 : am_maxL 15 = 5 := rfl
theorem hlsl15 : am_lsl 15 = [] := rfl
theorem hc16 : am_code 16 = cX0_isPosition := rfl
theorem ho16 : am_cls 16 = 0 := rfl
theorem hst16 : am_stc 16 = true := rfl
theorem hnp16 : am_np 16 = 1 := rfl
theorem hml16 : am_maxL 16 = 1 := rfl
theorem hlsl16 : am_lsl 16 = [] := rfl
theorem hc17 : am_code 17 = cX0_setConstant := rfl
theorem ho17 : am_cls 17 = 0 := rfl
theorem hst17 : am_stc 17 = false := rfl
theorem hnp17 : am_np 17 = 3 := rfl
theorem hml17 : am_maxL 17 = 4 := rfl
theorem hlsl17 : am_lsl 17 = [] := rfl
theorem hc18 : am_code 18 = cX0_isFaithful := rfl
theorem ho18 : am_cls 18 = 0 := rfl
theorem hst18 : am_stc 18 = false := rfl
theorem hnp18 : am_np 18 = 1 := rfl
theorem hml18 : am_maxL 18 = 2 := rfl
theorem hlsl18 : am_lsl 18 = [] := rfl
theorem hc19 : am_code 19 = cX0_allowAdapters := rfl
theorem ho19 : am_cls 19 = 0 := rfl
theorem hst19 : am_stc 19 = false := rfl
theorem hnp19 : am_np 19 = 1 := rfl
theorem hml19 : am_maxL 19 = 3 := rfl
theorem hlsl19 : am_lsl 19 = [] := rfl
theorem hc20 : am_code 20 = cX0_adapterOf := rfl
theorem ho20 : am_cls 20 = 0 := rfl
theorem hst20 : am_stc 20 = false := rfl
theorem hnp20 : am_np 20 = 1 := rfl
theorem hml20 : am_maxL 20 = 2 := rfl
theorem hlsl20 : am_lsl 20 = [] := rfl
theorem hc21 : am_code 21 = cX0_append := rfl
theorem ho21 : am_cls 21 = 0 := rfl
theorem hst21 : am_stc 21 = false := rfl
theorem hnp21 : am_np 21 = 1 := rfl
theorem hml21 : am_maxL 21 = 2 := rfl
theorem hlsl21 : am_lsl 21 = [] := rfl
theorem hc22 : am_code 22 = cX0_clearText := rfl
theorem ho22 : am_cls 22 = 0 := rfl
theorem hst22 : am_stc 22 = false := rfl
theorem hnp22 : am_np 22 = 0 := rfl
theorem hml22 : am_maxL 22 = 2 := rfl
theorem hlsl22 : am_lsl 22 = [] := rfl
theorem hc23 : am_code 23 = cX0_parse := rfl
theorem ho23 : am_cls 23 = 0 := rfl
theorem hst23 : am_stc 23 = false := rfl
theorem hnp23 : am_np 23 = 0 := rfl
theorem hml23 : am_maxL 23 = 2 := rfl
theorem hlsl23 : am_lsl 23 = [] := rfl
theorem hc24 : am_code 24 = cX0_migrate := rfl
theorem ho24 : am_cls 24 = 0 := rfl
theorem hst24 : am_stc 24 = false := rfl
theorem hnp24 : am_np 24 = 0 := rfl
theorem hml24 : am_maxL 24 = 2 := rfl
theorem hlsl24 : am_lsl 24 = [] := rfl
theorem hc25 : am_code 25 = cX0_left := rfl
theorem ho25 : am_cls 25 = 0 := rfl
theorem hst25 : am_stc 25 = false := rfl
theorem hnp25 : am_np 25 = 1 := rfl
theorem hml25 : am_maxL 25 = 2 := rfl
theorem hlsl25 : am_lsl 25 = [] := rfl
theorem hc26 : am_code 26 = cX0_sites := rfl
theorem ho26 : am_cls 26 = 0 := rfl
theorem hst26 : am_stc 26 = false := rfl
theorem hnp26 : am_np 26 = 0 := rfl
theorem hml26 : am_maxL 26 = 1 := rfl
theorem hlsl26 : am_lsl 26 = [] := rfl
theorem hc27 : am_code 27 = cX0_nodes := rfl
theorem ho27 : am_cls 27 = 0 := rfl
theorem hst27 : am_stc 27 = false := rfl
theorem hnp27 : am_np 27 = 0 := rfl
theorem hml27 : am_maxL 27 = 1 := rfl
theorem hlsl27 : am_lsl 27 = [] := rfl
theorem hc28 : am_code 28 = cX0_value := rfl
theorem ho28 : am_cls 28 = 0 := rfl
theorem hst28 : am_stc 28 = false := rfl
theorem hnp28 : am_np 28 = 2 := rfl
theorem hml28 : am_maxL 28 = 3 := rfl
theorem hlsl28 : am_lsl 28 = [] := rfl
theorem hc29 : am_code 29 = cX0_textByte := rfl
theorem ho29 : am_cls 29 = 0 := rfl
theorem hst29 : am_stc 29 = false := rfl
theorem hnp29 : am_np 29 = 1 := rfl
theorem hml29 : am_maxL 29 = 3 := rfl
theorem hlsl29 : am_lsl 29 = [] := rfl
theorem hc30 : am_code 30 = cX0_programText := rfl
theorem ho30 : am_cls 30 = 0 := rfl
theorem hst30 : am_stc 30 = false := rfl
theorem hnp30 : am_np 30 = 0 := rfl
theorem hml30 : am_maxL 30 = 2 := rfl
theorem hlsl30 : am_lsl 30 = [] := rfl
theorem hc31 : am_code 31 = cX0_undo := rfl
theorem ho31 : am_cls 31 = 0 := rfl
theorem hst31 : am_stc 31 = false := rfl
theorem hnp31 : am_np 31 = 0 := rfl
theorem hml31 : am_maxL 31 = 1 := rfl
theorem hlsl31 : am_lsl 31 = [] := rfl
theorem hc32 : am_code 32 = cX0_errorCount := rfl
theorem ho32 : am_cls 32 = 0 := rfl
theorem hst32 : am_stc 32 = false := rfl
theorem hnp32 : am_np 32 = 1 := rfl
theorem hml32 : am_maxL 32 = 2 := rfl
theorem hlsl32 : am_lsl 32 = [] := rfl
theorem hc33 : am_code 33 = cX0_digest := rfl
theorem ho33 : am_cls 33 = 0 := rfl
theorem hst33 : am_stc 33 = false := rfl
theorem hnp33 : am_np 33 = 0 := rfl
theorem hml33 : am_maxL 33 = 5 := rfl
theorem hlsl33 : am_lsl 33 = [1] := rfl
theorem hc34 : am_code 34 = cX0_mix := rfl
theorem ho34 : am_cls 34 = 0 := rfl
theorem hst34 : am_stc 34 = true := rfl
theorem hnp34 : am_np 34 = 2 := rfl
theorem hml34 : am_maxL 34 = 9 := rfl
theorem hlsl34 : am_lsl 34 = [0, 3] := rfl
theorem hc35 : am_code 35 = cX0_mixAll := rfl
theorem ho35 : am_cls 35 = 0 := rfl
theorem hst35 : am_stc 35 = true := rfl
theorem hnp35 : am_np 35 = 2 := rfl
theorem hml35 : am_maxL 35 = 9 := rfl
theorem hlsl35 : am_lsl 35 = [0, 3] := rfl
theorem hc36 : am_code 36 = cX1_init := rfl
theorem ho36 : am_cls 36 = 1 := rfl
theorem hst36 : am_stc 36 = false := rfl
theorem hnp36 : am_np 36 = 0 := rfl
theorem hml36 : am_maxL 36 = 1 := rfl
theorem hlsl36 : am_lsl 36 = [] := rfl
theorem hc37 : am_code 37 = cX1_copyFrom := rfl
theorem ho37 : am_cls 37 = 1 := rfl
theorem hst37 : am_stc 37 = false := rfl
theorem hnp37 : am_np 37 = 1 := rfl
theorem hml37 : am_maxL 37 = 2 := rfl
theorem hlsl37 : am_lsl 37 = [] := rfl
theorem hc38 : am_code 38 = cX1_isFaithful := rfl
theorem ho38 : am_cls 38 = 1 := rfl
theorem hst38 : am_stc 38 = false := rfl
theorem hnp38 : am_np 38 = 1 := rfl
theorem hml38 : am_maxL 38 = 2 := rfl
theorem hlsl38 : am_lsl 38 = [] := rfl
theorem hc39 : am_code 39 = cX1_hasEffect := rfl
theorem ho39 : am_cls 39 = 1 := rfl
theorem hst39 : am_stc 39 = false := rfl
theorem hnp39 : am_np 39 = 1 := rfl
theorem hml39 : am_maxL 39 = 7 := rfl
theorem hlsl39 : am_lsl 39 = [] := rfl
theorem hc40 : am_code 40 = cX1_function := rfl
theorem ho40 : am_cls 40 = 1 := rfl
theorem hst40 : am_stc 40 = false := rfl
theorem hnp40 : am_np 40 = 1 := rfl
theorem hml40 : am_maxL 40 = 2 := rfl
theorem hlsl40 : am_lsl 40 = [] := rfl
theorem hc41 : am_code 41 = cX1_value := rfl
theorem ho41 : am_cls 41 = 1 := rfl
theorem hst41 : am_stc 41 = false := rfl
theorem hnp41 : am_np 41 = 3 := rfl
theorem hml41 : am_maxL 41 = 7 := rfl
theorem hlsl41 : am_lsl 41 = [] := rfl
theorem hc42 : am_code 42 = cX2_init := rfl
theorem ho42 : am_cls 42 = 2 := rfl
theorem hst42 : am_stc 42 = false := rfl
theorem hnp42 : am_np 42 = 3 := rfl
theorem hml42 : am_maxL 42 = 9 := rfl
theorem hlsl42 : am_lsl 42 = [] := rfl
theorem hc43 : am_code 43 = cX2_sites := rfl
theorem ho43 : am_cls 43 = 2 := rfl
theorem hst43 : am_stc 43 = false := rfl
theorem hnp43 : am_np 43 = 0 := rfl
theorem hml43 : am_maxL 43 = 6 := rfl
theorem hlsl43 : am_lsl 43 = [] := rfl
theorem hc44 : am_code 44 = cX2_write := rfl
theorem ho44 : am_cls 44 = 2 := rfl
theorem hst44 : am_stc 44 = false := rfl
theorem hnp44 : am_np 44 = 1 := rfl
theorem hml44 : am_maxL 44 = 3 := rfl
theorem hlsl44 : am_lsl 44 = [] := rfl
theorem hc45 : am_code 45 = cX3_init := rfl
theorem ho45 : am_cls 45 = 3 := rfl
theorem hst45 : am_stc 45 = false := rfl
theorem hnp45 : am_np 45 = 0 := rfl
theorem hml45 : am_maxL 45 = 1 := rfl
theorem hlsl45 : am_lsl 45 = [] := rfl
theorem hc46 : am_code 46 = cX3_init_2 := rfl
theorem ho46 : am_cls 46 = 3 := rfl
theorem hst46 : am_stc 46 = false := rfl
theorem hnp46 : am_np 46 = 4 := rfl
theorem hml46 : am_maxL 46 = 5 := rfl
theorem hlsl46 : am_lsl 46 = [] := rfl
theorem hc47 : am_code 47 = cX3_with := rfl
theorem ho47 : am_cls 47 = 3 := rfl
theorem hst47 : am_stc 47 = false := rfl
theorem hnp47 : am_np 47 = 2 := rfl
theorem hml47 : am_maxL 47 = 3 := rfl
theorem hlsl47 : am_lsl 47 = [] := rfl
theorem hc48 : am_code 48 = cX3_term := rfl
theorem ho48 : am_cls 48 = 3 := rfl
theorem hst48 : am_stc 48 = false := rfl
theorem hnp48 : am_np 48 = 1 := rfl
theorem hml48 : am_maxL 48 = 2 := rfl
theorem hlsl48 : am_lsl 48 = [] := rfl
theorem hc49 : am_code 49 = cX3_withTerm := rfl
theorem ho49 : am_cls 49 = 3 := rfl
theorem hst49 : am_stc 49 = false := rfl
theorem hnp49 : am_np 49 = 2 := rfl
theorem hml49 : am_maxL 49 = 4 := rfl
theorem hlsl49 : am_lsl 49 = [] := rfl
theorem hc50 : am_code 50 = cX4_init := rfl
theorem ho50 : am_cls 50 = 4 := rfl
theorem hst50 : am_stc 50 = false := rfl
theorem hnp50 : am_np 50 = 1 := rfl
theorem hml50 : am_maxL 50 = 2 := rfl
theorem hlsl50 : am_lsl 50 = [] := rfl
theorem hc51 : am_code 51 = cX4_parse := rfl
theorem ho51 : am_cls 51 = 4 := rfl
theorem hst51 : am_stc 51 = false := rfl
theorem hnp51 : am_np 51 = 0 := rfl
theorem hml51 : am_maxL 51 = 2 := rfl
theorem hlsl51 : am_lsl 51 = [] := rfl
theorem hc52 : am_code 52 = cX4_expression := rfl
theorem ho52 : am_cls 52 = 4 := rfl
theorem hst52 : am_stc 52 = false := rfl
theorem hnp52 : am_np 52 = 0 := rfl
theorem hml52 : am_maxL 52 = 2 := rfl
theorem hlsl52 : am_lsl 52 = [] := rfl
theorem hc53 : am_code 53 = cX4_require := rfl
theorem ho53 : am_cls 53 = 4 := rfl
theorem hst53 : am_stc 53 = false := rfl
theorem hnp53 : am_np 53 = 1 := rfl
theorem hml53 : am_maxL 53 = 2 := rfl
theorem hlsl53 : am_lsl 53 = [] := rfl
theorem hc54 : am_code 54 = cX4_number := rfl
theorem ho54 : am_cls 54 = 4 := rfl
theorem hst54 : am_stc 54 = false := rfl
theorem hnp54 : am_np 54 = 0 := rfl
theorem hml54 : am_maxL 54 = 3 := rfl
theorem hlsl54 : am_lsl 54 = [] := rfl
theorem hc55 : am_code 55 = cX4_isAt := rfl
theorem ho55 : am_cls 55 = 4 := rfl
theorem hst55 : am_stc 55 = false := rfl
theorem hnp55 : am_np 55 = 2 := rfl
theorem hml55 : am_maxL 55 = 3 := rfl
theorem hlsl55 : am_lsl 55 = [] := rfl
theorem hc56 : am_code 56 = cX4_call := rfl
theorem ho56 : am_cls 56 = 4 := rfl
theorem hst56 : am_stc 56 = false := rfl
theorem hnp56 : am_np 56 = 3 := rfl
theorem hml56 : am_maxL 56 = 6 := rfl
theorem hlsl56 : am_lsl 56 = [] := rfl
theorem hc57 : am_code 57 = cX4_pass := rfl
theorem ho57 : am_cls 57 = 4 := rfl
theorem hst57 : am_stc 57 = false := rfl
theorem hnp57 : am_np 57 = 1 := rfl
theorem hml57 : am_maxL 57 = 2 := rfl
theorem hlsl57 : am_lsl 57 = [] := rfl
theorem hc58 : am_code 58 = cX5_init := rfl
theorem ho58 : am_cls 58 = 5 := rfl
theorem hst58 : am_stc 58 = false := rfl
theorem hnp58 : am_np 58 = 0 := rfl
theorem hml58 : am_maxL 58 = 2 := rfl
theorem hlsl58 : am_lsl 58 = [] := rfl
theorem hc59 : am_code 59 = cX5_setOld := rfl
theorem ho59 : am_cls 59 = 5 := rfl
theorem hst59 : am_stc 59 = false := rfl
theorem hnp59 : am_np 59 = 3 := rfl
theorem hml59 : am_maxL 59 = 5 := rfl
theorem hlsl59 : am_lsl 59 = [] := rfl
theorem hc60 : am_code 60 = cX5_isFunction := rfl
theorem ho60 : am_cls 60 = 5 := rfl
theorem hst60 : am_stc 60 = true := rfl
theorem hnp60 : am_np 60 = 1 := rfl
theorem hml60 : am_maxL 60 = 1 := rfl
theorem hlsl60 : am_lsl 60 = [] := rfl
theorem hc61 : am_code 61 = cX5_in := rfl
theorem ho61 : am_cls 61 = 5 := rfl
theorem hst61 : am_stc 61 = true := rfl
theorem hnp61 : am_np 61 = 3 := rfl
theorem hml61 : am_maxL 61 = 6 := rfl
theorem hlsl61 : am_lsl 61 = [0, 2, 4] := rfl
theorem hc62 : am_code 62 = cX5_sets := rfl
theorem ho62 : am_cls 62 = 5 := rfl
theorem hst62 : am_stc 62 = false := rfl
theorem hnp62 : am_np 62 = 3 := rfl
theorem hml62 : am_maxL 62 = 5 := rfl
theorem hlsl62 : am_lsl 62 = [] := rfl
theorem hc63 : am_code 63 = cX5_save := rfl
theorem ho63 : am_cls 63 = 5 := rfl
theorem hst63 : am_stc 63 = false := rfl
theorem hnp63 : am_np 63 = 0 := rfl
theorem hml63 : am_maxL 63 = 2 := rfl
theorem hlsl63 : am_lsl 63 = [] := rfl
theorem hc64 : am_code 64 = cX5_error := rfl
theorem ho64 : am_cls 64 = 5 := rfl
theorem hst64 : am_stc 64 = false := rfl
theorem hnp64 : am_np 64 = 1 := rfl
theorem hml64 : am_maxL 64 = 2 := rfl
theorem hlsl64 : am_lsl 64 = [] := rfl
theorem hc65 : am_code 65 = cX5_setNew := rfl
theorem ho65 : am_cls 65 = 5 := rfl
theorem hst65 : am_stc 65 = false := rfl
theorem hnp65 : am_np 65 = 3 := rfl
theorem hml65 : am_maxL 65 = 5 := rfl
theorem hlsl65 : am_lsl 65 = [] := rfl
theorem hc66 : am_code 66 = cX5_setOldTerm := rfl
theorem ho66 : am_cls 66 = 5 := rfl
theorem hst66 : am_stc 66 = false := rfl
theorem hnp66 : am_np 66 = 3 := rfl
theorem hml66 : am_maxL 66 = 4 := rfl
theorem hlsl66 : am_lsl 66 = [] := rfl
theorem hc67 : am_code 67 = cX5_setsTerm := rfl
theorem ho67 : am_cls 67 = 5 := rfl
theorem hst67 : am_stc 67 = false := rfl
theorem hnp67 : am_np 67 = 4 := rfl
theorem hml67 : am_maxL 67 = 7 := rfl
theorem hlsl67 : am_lsl 67 = [] := rfl
theorem hc68 : am_code 68 = cX5_setNewTerm := rfl
theorem ho68 : am_cls 68 = 5 := rfl
theorem hst68 : am_stc 68 = false := rfl
theorem hnp68 : am_np 68 = 3 := rfl
theorem hml68 : am_maxL 68 = 4 := rfl
theorem hlsl68 : am_lsl 68 = [] := rfl
theorem hc69 : am_code 69 = cX5_map := rfl
theorem ho69 : am_cls 69 = 5 := rfl
theorem hst69 : am_stc 69 = false := rfl
theorem hnp69 : am_np 69 = 2 := rfl
theorem hml69 : am_maxL 69 = 4 := rfl
theorem hlsl69 : am_lsl 69 = [] := rfl
theorem hc70 : am_code 70 = cX5_faithful := rfl
theorem ho70 : am_cls 70 = 5 := rfl
theorem hst70 : am_stc 70 = false := rfl
theorem hnp70 : am_np 70 = 1 := rfl
theorem hml70 : am_maxL 70 = 2 := rfl
theorem hlsl70 : am_lsl 70 = [] := rfl
theorem hc71 : am_code 71 = cX5_isTrue := rfl
theorem ho71 : am_cls 71 = 5 := rfl
theorem hst71 : am_stc 71 = false := rfl
theorem hnp71 : am_np 71 = 1 := rfl
theorem hml71 : am_maxL 71 = 9 := rfl
theorem hlsl71 : am_lsl 71 = [] := rfl
theorem hc72 : am_code 72 = cX5_newOf := rfl
theorem ho72 : am_cls 72 = 5 := rfl
theorem hst72 : am_stc 72 = false := rfl
theorem hnp72 : am_np 72 = 1 := rfl
theorem hml72 : am_maxL 72 = 2 := rfl
theorem hlsl72 : am_lsl 72 = [] := rfl
theorem hc73 : am_code 73 = cX5_used := rfl
theorem ho73 : am_cls 73 = 5 := rfl
theorem hst73 : am_stc 73 = false := rfl
theorem hnp73 : am_np 73 = 1 := rfl
theorem hml73 : am_maxL 73 = 2 := rfl
theorem hlsl73 : am_lsl 73 = [] := rfl
theorem hc74 : am_code 74 = cX5_entry := rfl
theorem ho74 : am_cls 74 = 5 := rfl
theorem hst74 : am_stc 74 = false := rfl
theorem hnp74 : am_np 74 = 2 := rfl
theorem hml74 : am_maxL 74 = 3 := rfl
theorem hlsl74 : am_lsl 74 = [] := rfl
theorem hc75 : am_code 75 = cX5_unmap := rfl
theorem ho75 : am_cls 75 = 5 := rfl
theorem hst75 : am_stc 75 = false := rfl
theorem hnp75 : am_np 75 = 1 := rfl
theorem hml75 : am_maxL 75 = 3 := rfl
theorem hlsl75 : am_lsl 75 = [] := rfl
theorem hc76 : am_code 76 = cX5_setSource := rfl
theorem ho76 : am_cls 76 = 5 := rfl
theorem hst76 : am_stc 76 = false := rfl
theorem hnp76 : am_np 76 = 3 := rfl
theorem hml76 : am_maxL 76 = 4 := rfl
theorem hlsl76 : am_lsl 76 = [] := rfl
theorem hc77 : am_code 77 = cX5_setsEntry := rfl
theorem ho77 : am_cls 77 = 5 := rfl
theorem hst77 : am_stc 77 = false := rfl
theorem hnp77 : am_np 77 = 4 := rfl
theorem hml77 : am_maxL 77 = 5 := rfl
theorem hlsl77 : am_lsl 77 = [] := rfl
theorem hc78 : am_code 78 = cX5_setConstant := rfl
theorem ho78 : am_cls 78 = 5 := rfl
theorem hst78 : am_stc 78 = false := rfl
theorem hnp78 : am_np 78 = 3 := rfl
theorem hml78 : am_maxL 78 = 5 := rfl
theorem hlsl78 : am_lsl 78 = [] := rfl
theorem hc79 : am_code 79 = cX5_isFaithful := rfl
theorem ho79 : am_cls 79 = 5 := rfl
theorem hst79 : am_stc 79 = false := rfl
theorem hnp79 : am_np 79 = 1 := rfl
theorem hml79 : am_maxL 79 = 2 := rfl
theorem hlsl79 : am_lsl 79 = [] := rfl
theorem hc80 : am_code 80 = cX5_allowAdapters := rfl
theorem ho80 : am_cls 80 = 5 := rfl
theorem hst80 : am_stc 80 = false := rfl
theorem hnp80 : am_np 80 = 1 := rfl
theorem hml80 : am_maxL 80 = 3 := rfl
theorem hlsl80 : am_lsl 80 = [] := rfl
theorem hc81 : am_code 81 = cX5_adapterOf := rfl
theorem ho81 : am_cls 81 = 5 := rfl
theorem hst81 : am_stc 81 = false := rfl
theorem hnp81 : am_np 81 = 1 := rfl
theorem hml81 : am_maxL 81 = 3 := rfl
theorem hlsl81 : am_lsl 81 = [] := rfl
theorem hc82 : am_code 82 = cX5_adapter := rfl
theorem ho82 : am_cls 82 = 5 := rfl
theorem hst82 : am_stc 82 = false := rfl
theorem hnp82 : am_np 82 = 1 := rfl
theorem hml82 : am_maxL 82 = 4 := rfl
theorem hlsl82 : am_lsl 82 = [] := rfl
theorem hc83 : am_code 83 = cX5_append := rfl
theorem ho83 : am_cls 83 = 5 := rfl
theorem hst83 : am_stc 83 = false := rfl
theorem hnp83 : am_np 83 = 1 := rfl
theorem hml83 : am_maxL 83 = 2 := rfl
theorem hlsl83 : am_lsl 83 = [] := rfl
theorem hc84 : am_code 84 = cX5_clearText := rfl
theorem ho84 : am_cls 84 = 5 := rfl
theorem hst84 : am_stc 84 = false := rfl
theorem hnp84 : am_np 84 = 0 := rfl
theorem hml84 : am_maxL 84 = 2 := rfl
theorem hlsl84 : am_lsl 84 = [] := rfl
theorem hc85 : am_code 85 = cX5_parse := rfl
theorem ho85 : am_cls 85 = 5 := rfl
theorem hst85 : am_stc 85 = false := rfl
theorem hnp85 : am_np 85 = 0 := rfl
theorem hml85 : am_maxL 85 = 2 := rfl
theorem hlsl85 : am_lsl 85 = [] := rfl
theorem hc86 : am_code 86 = cX5_readsNode := rfl
theorem ho86 : am_cls 86 = 5 := rfl
theorem hst86 : am_stc 86 = false := rfl
theorem hnp86 : am_np 86 = 0 := rfl
theorem hml86 : am_maxL 86 = 4 := rfl
theorem hlsl86 : am_lsl 86 = [] := rfl
theorem hc87 : am_code 87 = cX5_here := rfl
theorem ho87 : am_cls 87 = 5 := rfl
theorem hst87 : am_stc 87 = false := rfl
theorem hnp87 : am_np 87 = 1 := rfl
theorem hml87 : am_maxL 87 = 2 := rfl
theorem hlsl87 : am_lsl 87 = [] := rfl
theorem hc88 : am_code 88 = cX5_isDigit := rfl
theorem ho88 : am_cls 88 = 5 := rfl
theorem hst88 : am_stc 88 = true := rfl
theorem hnp88 : am_np 88 = 1 := rfl
theorem hml88 : am_maxL 88 = 1 := rfl
theorem hlsl88 : am_lsl 88 = [] := rfl
theorem hc89 : am_code 89 = cX5_node := rfl
theorem ho89 : am_cls 89 = 5 := rfl
theorem hst89 : am_stc 89 = true := rfl
theorem hnp89 : am_np 89 = 3 := rfl
theorem hml89 : am_maxL 89 = 3 := rfl
theorem hlsl89 : am_lsl 89 = [] := rfl
theorem hc90 : am_code 90 = cX5_nodeOf := rfl
theorem ho90 : am_cls 90 = 5 := rfl
theorem hst90 : am_stc 90 = false := rfl
theorem hnp90 : am_np 90 = 1 := rfl
theorem hml90 : am_maxL 90 = 2 := rfl
theorem hlsl90 : am_lsl 90 = [] := rfl
theorem hc91 : am_code 91 = cX5_kind := rfl
theorem ho91 : am_cls 91 = 5 := rfl
theorem hst91 : am_stc 91 = true := rfl
theorem hnp91 : am_np 91 = 1 := rfl
theorem hml91 : am_maxL 91 = 1 := rfl
theorem hlsl91 : am_lsl 91 = [] := rfl
theorem hc92 : am_code 92 = cX5_function := rfl
theorem ho92 : am_cls 92 = 5 := rfl
theorem hst92 : am_stc 92 = false := rfl
theorem hnp92 : am_np 92 = 1 := rfl
theorem hml92 : am_maxL 92 = 2 := rfl
theorem hlsl92 : am_lsl 92 = [] := rfl
theorem hc93 : am_code 93 = cX5_which := rfl
theorem ho93 : am_cls 93 = 5 := rfl
theorem hst93 : am_stc 93 = true := rfl
theorem hnp93 : am_np 93 = 1 := rfl
theorem hml93 : am_maxL 93 = 1 := rfl
theorem hlsl93 : am_lsl 93 = [] := rfl
theorem hc94 : am_code 94 = cX5_closes := rfl
theorem ho94 : am_cls 94 = 5 := rfl
theorem hst94 : am_stc 94 = false := rfl
theorem hnp94 : am_np 94 = 0 := rfl
theorem hml94 : am_maxL 94 = 1 := rfl
theorem hlsl94 : am_lsl 94 = [] := rfl
theorem hc95 : am_code 95 = cX5_migrate := rfl
theorem ho95 : am_cls 95 = 5 := rfl
theorem hst95 : am_stc 95 = false := rfl
theorem hnp95 : am_np 95 = 0 := rfl
theorem hml95 : am_maxL 95 = 4 := rfl
theorem hlsl95 : am_lsl 95 = [] := rfl
theorem hc96 : am_code 96 = cX5_arguments := rfl
theorem ho96 : am_cls 96 = 5 := rfl
theorem hst96 : am_stc 96 = true := rfl
theorem hnp96 : am_np 96 = 1 := rfl
theorem hml96 : am_maxL 96 = 1 := rfl
theorem hlsl96 : am_lsl 96 = [] := rfl
theorem hc97 : am_code 97 = cX5_treatsLeaf := rfl
theorem ho97 : am_cls 97 = 5 := rfl
theorem hst97 : am_stc 97 = false := rfl
theorem hnp97 : am_np 97 = 1 := rfl
theorem hml97 : am_maxL 97 = 2 := rfl
theorem hlsl97 : am_lsl 97 = [] := rfl
theorem hc98 : am_code 98 = cX5_treats := rfl
theorem ho98 : am_cls 98 = 5 := rfl
theorem hst98 : am_stc 98 = false := rfl
theorem hnp98 : am_np 98 = 1 := rfl
theorem hml98 : am_maxL 98 = 6 := rfl
theorem hlsl98 : am_lsl 98 = [] := rfl
theorem hc99 : am_code 99 = cX5_putsCall := rfl
theorem ho99 : am_cls 99 = 5 := rfl
theorem hst99 : am_stc 99 = false := rfl
theorem hnp99 : am_np 99 = 1 := rfl
theorem hml99 : am_maxL 99 = 5 := rfl
theorem hlsl99 : am_lsl 99 = [] := rfl
theorem hc100 : am_code 100 = cX5_adapterFor := rfl
theorem ho100 : am_cls 100 = 5 := rfl
theorem hst100 : am_stc 100 = false := rfl
theorem hnp100 : am_np 100 = 1 := rfl
theorem hml100 : am_maxL 100 = 5 := rfl
theorem hlsl100 : am_lsl 100 = [] := rfl
theorem hc101 : am_code 101 = cX5_reason := rfl
theorem ho101 : am_cls 101 = 5 := rfl
theorem hst101 : am_stc 101 = false := rfl
theorem hnp101 : am_np 101 = 1 := rfl
theorem hml101 : am_maxL 101 = 9 := rfl
theorem hlsl101 : am_lsl 101 = [] := rfl
theorem hc102 : am_code 102 = cX5_first := rfl
theorem ho102 : am_cls 102 = 5 := rfl
theorem hst102 : am_stc 102 = false := rfl
theorem hnp102 : am_np 102 = 1 := rfl
theorem hml102 : am_maxL 102 = 2 := rfl
theorem hlsl102 : am_lsl 102 = [] := rfl
theorem hc103 : am_code 103 = cX5_hasEffect := rfl
theorem ho103 : am_cls 103 = 5 := rfl
theorem hst103 : am_stc 103 = false := rfl
theorem hnp103 : am_np 103 = 1 := rfl
theorem hml103 : am_maxL 103 = 4 := rfl
theorem hlsl103 : am_lsl 103 = [] := rfl
theorem hc104 : am_code 104 = cX5_uses := rfl
theorem ho104 : am_cls 104 = 5 := rfl
theorem hst104 : am_stc 104 = false := rfl
theorem hnp104 : am_np 104 = 2 := rfl
theorem hml104 : am_maxL 104 = 5 := rfl
theorem hlsl104 : am_lsl 104 = [] := rfl
theorem hc105 : am_code 105 = cX5_size := rfl
theorem ho105 : am_cls 105 = 5 := rfl
theorem hst105 : am_stc 105 = false := rfl
theorem hnp105 : am_np 105 = 2 := rfl
theorem hml105 : am_maxL 105 = 3 := rfl
theorem hlsl105 : am_lsl 105 = [] := rfl
theorem hc106 : am_code 106 = cX5_sizeThen := rfl
theorem ho106 : am_cls 106 = 5 := rfl
theorem hst106 : am_stc 106 = false := rfl
theorem hnp106 : am_np 106 = 2 := rfl
theorem hml106 : am_maxL 106 = 6 := rfl
theorem hlsl106 : am_lsl 106 = [] := rfl
theorem hc107 : am_code 107 = cX5_becomesNew := rfl
theorem ho107 : am_cls 107 = 5 := rfl
theorem hst107 : am_stc 107 = false := rfl
theorem hnp107 : am_np 107 = 1 := rfl
theorem hml107 : am_maxL 107 = 8 := rfl
theorem hlsl107 : am_lsl 107 = [] := rfl
theorem hc108 : am_code 108 = cX5_treatsOpen := rfl
theorem ho108 : am_cls 108 = 5 := rfl
theorem hst108 : am_stc 108 = false := rfl
theorem hnp108 : am_np 108 = 0 := rfl
theorem hml108 : am_maxL 108 = 3 := rfl
theorem hlsl108 : am_lsl 108 = [] := rfl
theorem hc109 : am_code 109 = cX5_left := rfl
theorem ho109 : am_cls 109 = 5 := rfl
theorem hst109 : am_stc 109 = false := rfl
theorem hnp109 : am_np 109 = 1 := rfl
theorem hml109 : am_maxL 109 = 2 := rfl
theorem hlsl109 : am_lsl 109 = [] := rfl
theorem hc110 : am_code 110 = cX5_sites := rfl
theorem ho110 : am_cls 110 = 5 := rfl
theorem hst110 : am_stc 110 = false := rfl
theorem hnp110 : am_np 110 = 0 := rfl
theorem hml110 : am_maxL 110 = 1 := rfl
theorem hlsl110 : am_lsl 110 = [] := rfl
theorem hc111 : am_code 111 = cX5_siteMany := rfl
theorem ho111 : am_cls 111 = 5 := rfl
theorem hst111 : am_stc 111 = false := rfl
theorem hnp111 : am_np 111 = 0 := rfl
theorem hml111 : am_maxL 111 = 3 := rfl
theorem hlsl111 : am_lsl 111 = [] := rfl
theorem hc112 : am_code 112 = cX5_nodes := rfl
theorem ho112 : am_cls 112 = 5 := rfl
theorem hst112 : am_stc 112 = false := rfl
theorem hnp112 : am_np 112 = 0 := rfl
theorem hml112 : am_maxL 112 = 1 := rfl
theorem hlsl112 : am_lsl 112 = [] := rfl
theorem hc113 : am_code 113 = cX5_value := rfl
theorem ho113 : am_cls 113 = 5 := rfl
theorem hst113 : am_stc 113 = false := rfl
theorem hnp113 : am_np 113 = 2 := rfl
theorem hml113 : am_maxL 113 = 9 := rfl
theorem hlsl113 : am_lsl 113 = [] := rfl
theorem hc114 : am_code 114 = cX5_textByte := rfl
theorem ho114 : am_cls 114 = 5 := rfl
theorem hst114 : am_stc 114 = false := rfl
theorem hnp114 : am_np 114 = 1 := rfl
theorem hml114 : am_maxL 114 = 2 := rfl
theorem hlsl114 : am_lsl 114 = [] := rfl
theorem hc115 : am_code 115 = cX5_tellsAll := rfl
theorem ho115 : am_cls 115 = 5 := rfl
theorem hst115 : am_stc 115 = false := rfl
theorem hnp115 : am_np 115 = 0 := rfl
theorem hml115 : am_maxL 115 = 3 := rfl
theorem hlsl115 : am_lsl 115 = [] := rfl
theorem hc116 : am_code 116 = cX5_tellsNode := rfl
theorem ho116 : am_cls 116 = 5 := rfl
theorem hst116 : am_stc 116 = false := rfl
theorem hnp116 : am_np 116 = 1 := rfl
theorem hml116 : am_maxL 116 = 3 := rfl
theorem hlsl116 : am_lsl 116 = [] := rfl
theorem hc117 : am_code 117 = cX5_tells := rfl
theorem ho117 : am_cls 117 = 5 := rfl
theorem hst117 : am_stc 117 = false := rfl
theorem hnp117 : am_np 117 = 1 := rfl
theorem hml117 : am_maxL 117 = 2 := rfl
theorem hlsl117 : am_lsl 117 = [] := rfl
theorem hc118 : am_code 118 = cX5_tellsEnds := rfl
theorem ho118 : am_cls 118 = 5 := rfl
theorem hst118 : am_stc 118 = false := rfl
theorem hnp118 : am_np 118 = 0 := rfl
theorem hml118 : am_maxL 118 = 2 := rfl
theorem hlsl118 : am_lsl 118 = [] := rfl
theorem hc119 : am_code 119 = cX5_undo := rfl
theorem ho119 : am_cls 119 = 5 := rfl
theorem hst119 : am_stc 119 = false := rfl
theorem hnp119 : am_np 119 = 0 := rfl
theorem hml119 : am_maxL 119 = 2 := rfl
theorem hlsl119 : am_lsl 119 = [] := rfl
theorem hc120 : am_code 120 = cX5_errorCount := rfl
theorem ho120 : am_cls 120 = 5 := rfl
theorem hst120 : am_stc 120 = false := rfl
theorem hnp120 : am_np 120 = 1 := rfl
theorem hml120 : am_maxL 120 = 2 := rfl
theorem hlsl120 : am_lsl 120 = [] := rfl
theorem hc121 : am_code 121 = cX5_digest := rfl
theorem ho121 : am_cls 121 = 5 := rfl
theorem hst121 : am_stc 121 = false := rfl
theorem hnp121 : am_np 121 = 0 := rfl
theorem hml121 : am_maxL 121 = 4 := rfl
theorem hlsl121 : am_lsl 121 = [1] := rfl
theorem hc122 : am_code 122 = cX6_init := rfl
theorem ho122 : am_cls 122 = 6 := rfl
theorem hst122 : am_stc 122 = false := rfl
theorem hnp122 : am_np 122 = 1 := rfl
theorem hml122 : am_maxL 122 = 2 := rfl
theorem hlsl122 : am_lsl 122 = [] := rfl
theorem hc123 : am_code 123 = cX6_init_2 := rfl
theorem ho123 : am_cls 123 = 6 := rfl
theorem hst123 : am_stc 123 = false := rfl
theorem hnp123 : am_np 123 = 2 := rfl
theorem hml123 : am_maxL 123 = 3 := rfl
theorem hlsl123 : am_lsl 123 = [] := rfl
theorem hc124 : am_code 124 = cX6_isFaithful := rfl
theorem ho124 : am_cls 124 = 6 := rfl
theorem hst124 : am_stc 124 = false := rfl
theorem hnp124 : am_np 124 = 2 := rfl
theorem hml124 : am_maxL 124 = 5 := rfl
theorem hlsl124 : am_lsl 124 = [] := rfl
theorem hc125 : am_code 125 = cX6_isWellFormed := rfl
theorem ho125 : am_cls 125 = 6 := rfl
theorem hst125 : am_stc 125 = false := rfl
theorem hnp125 : am_np 125 = 2 := rfl
theorem hml125 : am_maxL 125 = 5 := rfl
theorem hlsl125 : am_lsl 125 = [] := rfl
theorem hc126 : am_code 126 = cX6_constantOf := rfl
theorem ho126 : am_cls 126 = 6 := rfl
theorem hst126 : am_stc 126 = false := rfl
theorem hnp126 : am_np 126 = 1 := rfl
theorem hml126 : am_maxL 126 = 4 := rfl
theorem hlsl126 : am_lsl 126 = [] := rfl
theorem hc127 : am_code 127 = cX6_coefficientOf := rfl
theorem ho127 : am_cls 127 = 6 := rfl
theorem hst127 : am_stc 127 = false := rfl
theorem hnp127 : am_np 127 = 2 := rfl
theorem hml127 : am_maxL 127 = 5 := rfl
theorem hlsl127 : am_lsl 127 = [] := rfl
theorem hc128 : am_code 128 = cX6_withEntry := rfl
theorem ho128 : am_cls 128 = 6 := rfl
theorem hst128 : am_stc 128 = false := rfl
theorem hnp128 : am_np 128 = 2 := rfl
theorem hml128 : am_maxL 128 = 4 := rfl
theorem hlsl128 : am_lsl 128 = [] := rfl
theorem hc129 : am_code 129 = cX7_init := rfl
theorem ho129 : am_cls 129 = 7 := rfl
theorem hst129 : am_stc 129 = false := rfl
theorem hnp129 : am_np 129 = 1 := rfl
theorem hml129 : am_maxL 129 = 2 := rfl
theorem hlsl129 : am_lsl 129 = [] := rfl
theorem hc130 : am_code 130 = cX8_init := rfl
theorem ho130 : am_cls 130 = 8 := rfl
theorem hst130 : am_stc 130 = false := rfl
theorem hnp130 : am_np 130 = 1 := rfl
theorem hml130 : am_maxL 130 = 2 := rfl
theorem hlsl130 : am_lsl 130 = [] := rfl
theorem hc131 : am_code 131 = cX8_migrate := rfl
theorem ho131 : am_cls 131 = 8 := rfl
theorem hst131 : am_stc 131 = false := rfl
theorem hnp131 : am_np 131 = 1 := rfl
theorem hml131 : am_maxL 131 = 4 := rfl
theorem hlsl131 : am_lsl 131 = [] := rfl
theorem hc132 : am_code 132 = cX8_site := rfl
theorem ho132 : am_cls 132 = 8 := rfl
theorem hst132 : am_stc 132 = false := rfl
theorem hnp132 : am_np 132 = 1 := rfl
theorem hml132 : am_maxL 132 = 9 := rfl
theorem hlsl132 : am_lsl 132 = [] := rfl
theorem hc133 : am_code 133 = cX8_leave := rfl
theorem ho133 : am_cls 133 = 8 := rfl
theorem hst133 : am_stc 133 = false := rfl
theorem hnp133 : am_np 133 = 2 := rfl
theorem hml133 : am_maxL 133 = 3 := rfl
theorem hlsl133 : am_lsl 133 = [] := rfl
theorem hc134 : am_code 134 = cX8_adapt := rfl
theorem ho134 : am_cls 134 = 8 := rfl
theorem hst134 : am_stc 134 = false := rfl
theorem hnp134 : am_np 134 = 1 := rfl
theorem hml134 : am_maxL 134 = 3 := rfl
theorem hlsl134 : am_lsl 134 = [] := rfl
theorem hc135 : am_code 135 = cX8_reason := rfl
theorem ho135 : am_cls 135 = 8 := rfl
theorem hst135 : am_stc 135 = false := rfl
theorem hnp135 : am_np 135 = 3 := rfl
theorem hml135 : am_maxL 135 = 10 := rfl
theorem hlsl135 : am_lsl 135 = [] := rfl
theorem hc136 : am_code 136 = cX8_hasLaterSmaller := rfl
theorem ho136 : am_cls 136 = 8 := rfl
theorem hst136 : am_stc 136 = false := rfl
theorem hnp136 : am_np 136 = 4 := rfl
theorem hml136 : am_maxL 136 = 8 := rfl
theorem hlsl136 : am_lsl 136 = [] := rfl
theorem hc137 : am_code 137 = cJ0_fill := rfl
theorem ho137 : am_cls 137 = 10 := rfl
theorem hst137 : am_stc 137 = true := rfl
theorem hnp137 : am_np 137 = 2 := rfl
theorem hml137 : am_maxL 137 = 4 := rfl
theorem hlsl137 : am_lsl 137 = [] := rfl
theorem hc138 : am_code 138 = cJ0_fill_2 := rfl
theorem ho138 : am_cls 138 = 10 := rfl
theorem hst138 : am_stc 138 = true := rfl
theorem hnp138 : am_np 138 = 2 := rfl
theorem hml138 : am_maxL 138 = 4 := rfl
theorem hlsl138 : am_lsl 138 = [] := rfl
theorem hc139 : am_code 139 = cJ0_copyOf := rfl
theorem ho139 : am_cls 139 = 10 := rfl
theorem hst139 : am_stc 139 = true := rfl
theorem hnp139 : am_np 139 = 2 := rfl
theorem hml139 : am_maxL 139 = 3 := rfl
theorem hlsl139 : am_lsl 139 = [] := rfl
theorem hc140 : am_code 140 = cJ1_init := rfl
theorem ho140 : am_cls 140 = 11 := rfl
theorem hst140 : am_stc 140 = false := rfl
theorem hnp140 : am_np 140 = 0 := rfl
theorem hml140 : am_maxL 140 = 1 := rfl
theorem hlsl140 : am_lsl 140 = [] := rfl
theorem hc141 : am_code 141 = cJ1_init_2 := rfl
theorem ho141 : am_cls 141 = 11 := rfl
theorem hst141 : am_stc 141 = false := rfl
theorem hnp141 : am_np 141 = 4 := rfl
theorem hml141 : am_maxL 141 = 5 := rfl
theorem hlsl141 : am_lsl 141 = [] := rfl
theorem hc142 : am_code 142 = cJ2_init := rfl
theorem ho142 : am_cls 142 = 12 := rfl
theorem hst142 : am_stc 142 = false := rfl
theorem hnp142 : am_np 142 = 4 := rfl
theorem hml142 : am_maxL 142 = 5 := rfl
theorem hlsl142 : am_lsl 142 = [] := rfl
theorem hc143 : am_code 143 = cJ3_init := rfl
theorem ho143 : am_cls 143 = 13 := rfl
theorem hst143 : am_stc 143 = false := rfl
theorem hnp143 : am_np 143 = 1 := rfl
theorem hml143 : am_maxL 143 = 2 := rfl
theorem hlsl143 : am_lsl 143 = [] := rfl
theorem hc144 : am_code 144 = cJ3_append := rfl
theorem ho144 : am_cls 144 = 13 := rfl
theorem hst144 : am_stc 144 = false := rfl
theorem hnp144 : am_np 144 = 1 := rfl
theorem hml144 : am_maxL 144 = 4 := rfl
theorem hlsl144 : am_lsl 144 = [] := rfl
theorem hc145 : am_code 145 = cJ3_ensureCapacityInternal := rfl
theorem ho145 : am_cls 145 = 13 := rfl
theorem hst145 : am_stc 145 = false := rfl
theorem hnp145 : am_np 145 = 1 := rfl
theorem hml145 : am_maxL 145 = 3 := rfl
theorem hlsl145 : am_lsl 145 = [] := rfl
theorem hc146 : am_code 146 = cJ3_newCapacity := rfl
theorem ho146 : am_cls 146 = 13 := rfl
theorem hst146 : am_stc 146 = false := rfl
theorem hnp146 : am_np 146 = 1 := rfl
theorem hml146 : am_maxL 146 = 6 := rfl
theorem hlsl146 : am_lsl 146 = [] := rfl
theorem hc147 : am_code 147 = cJ3_isLatin1 := rfl
theorem ho147 : am_cls 147 = 13 := rfl
theorem hst147 : am_stc 147 = false := rfl
theorem hnp147 : am_np 147 = 0 := rfl
theorem hml147 : am_maxL 147 = 1 := rfl
theorem hlsl147 : am_lsl 147 = [] := rfl
theorem hc148 : am_code 148 = cJ3_append_2 := rfl
theorem ho148 : am_cls 148 = 13 := rfl
theorem hst148 : am_stc 148 = false := rfl
theorem hnp148 : am_np 148 = 1 := rfl
theorem hml148 : am_maxL 148 = 2 := rfl
theorem hlsl148 : am_lsl 148 = [] := rfl
theorem hc149 : am_code 149 = cJ3_inflate := rfl
theorem ho149 : am_cls 149 = 13 := rfl
theorem hst149 : am_stc 149 = false := rfl
theorem hnp149 : am_np 149 = 0 := rfl
theorem hml149 : am_maxL 149 = 2 := rfl
theorem hlsl149 : am_lsl 149 = [] := rfl
theorem hc150 : am_code 150 = cJ3_append_3 := rfl
theorem ho150 : am_cls 150 = 13 := rfl
theorem hst150 : am_stc 150 = false := rfl
theorem hnp150 : am_np 150 = 1 := rfl
theorem hml150 : am_maxL 150 = 3 := rfl
theorem hlsl150 : am_lsl 150 = [] := rfl
theorem hc151 : am_code 151 = cJ3_appendNull := rfl
theorem ho151 : am_cls 151 = 13 := rfl
theorem hst151 : am_stc 151 = false := rfl
theorem hnp151 : am_np 151 = 0 := rfl
theorem hml151 : am_maxL 151 = 3 := rfl
theorem hlsl151 : am_lsl 151 = [] := rfl
theorem hc152 : am_code 152 = cJ3_putStringAt := rfl
theorem ho152 : am_cls 152 = 13 := rfl
theorem hst152 : am_stc 152 = false := rfl
theorem hnp152 : am_np 152 = 2 := rfl
theorem hml152 : am_maxL 152 = 3 := rfl
theorem hlsl152 : am_lsl 152 = [] := rfl
theorem hc153 : am_code 153 = cJ3_inflateIfNeededFor := rfl
theorem ho153 : am_cls 153 = 13 := rfl
theorem hst153 : am_stc 153 = false := rfl
theorem hnp153 : am_np 153 = 1 := rfl
theorem hml153 : am_maxL 153 = 2 := rfl
theorem hlsl153 : am_lsl 153 = [] := rfl
theorem hc154 : am_code 154 = cJ3_length := rfl
theorem ho154 : am_cls 154 = 13 := rfl
theorem hst154 : am_stc 154 = false := rfl
theorem hnp154 : am_np 154 = 0 := rfl
theorem hml154 : am_maxL 154 = 1 := rfl
theorem hlsl154 : am_lsl 154 = [] := rfl
theorem hc155 : am_code 155 = cJ3_charAt := rfl
theorem ho155 : am_cls 155 = 13 := rfl
theorem hst155 : am_stc 155 = false := rfl
theorem hnp155 : am_np 155 = 1 := rfl
theorem hml155 : am_maxL 155 = 5 := rfl
theorem hlsl155 : am_lsl 155 = [] := rfl
theorem hc156 : am_code 156 = cJ4_init := rfl
theorem ho156 : am_cls 156 = 14 := rfl
theorem hst156 : am_stc 156 = false := rfl
theorem hnp156 : am_np 156 = 0 := rfl
theorem hml156 : am_maxL 156 = 1 := rfl
theorem hlsl156 : am_lsl 156 = [] := rfl
theorem hc157 : am_code 157 = cJ4_append := rfl
theorem ho157 : am_cls 157 = 14 := rfl
theorem hst157 : am_stc 157 = false := rfl
theorem hnp157 : am_np 157 = 1 := rfl
theorem hml157 : am_maxL 157 = 2 := rfl
theorem hlsl157 : am_lsl 157 = [] := rfl
theorem hc158 : am_code 158 = cJ4_append_2 := rfl
theorem ho158 : am_cls 158 = 14 := rfl
theorem hst158 : am_stc 158 = false := rfl
theorem hnp158 : am_np 158 = 1 := rfl
theorem hml158 : am_maxL 158 = 2 := rfl
theorem hlsl158 : am_lsl 158 = [] := rfl
theorem hc159 : am_code 159 = cJ4_append_3 := rfl
theorem ho159 : am_cls 159 = 14 := rfl
theorem hst159 : am_stc 159 = false := rfl
theorem hnp159 : am_np 159 = 1 := rfl
theorem hml159 : am_maxL 159 = 2 := rfl
theorem hlsl159 : am_lsl 159 = [] := rfl
theorem hc160 : am_code 160 = cJ4_length := rfl
theorem ho160 : am_cls 160 = 14 := rfl
theorem hst160 : am_stc 160 = false := rfl
theorem hnp160 : am_np 160 = 0 := rfl
theorem hml160 : am_maxL 160 = 1 := rfl
theorem hlsl160 : am_lsl 160 = [] := rfl
theorem hc161 : am_code 161 = cJ4_charAt := rfl
theorem ho161 : am_cls 161 = 14 := rfl
theorem hst161 : am_stc 161 = false := rfl
theorem hnp161 : am_np 161 = 1 := rfl
theorem hml161 : am_maxL 161 = 2 := rfl
theorem hlsl161 : am_lsl 161 = [] := rfl
theorem hc162 : am_code 162 = cJ5_checkBoundsBeginEnd := rfl
theorem ho162 : am_cls 162 = 15 := rfl
theorem hst162 : am_stc 162 = true := rfl
theorem hnp162 : am_np 162 = 3 := rfl
theorem hml162 : am_maxL 162 = 3 := rfl
theorem hlsl162 : am_lsl 162 = [] := rfl
theorem hc163 : am_code 163 = cJ5_charAt := rfl
theorem ho163 : am_cls 163 = 15 := rfl
theorem hst163 : am_stc 163 = false := rfl
theorem hnp163 : am_np 163 = 1 := rfl
theorem hml163 : am_maxL 163 = 2 := rfl
theorem hlsl163 : am_lsl 163 = [] := rfl
theorem hc164 : am_code 164 = cJ5_isLatin1 := rfl
theorem ho164 : am_cls 164 = 15 := rfl
theorem hst164 : am_stc 164 = false := rfl
theorem hnp164 : am_np 164 = 0 := rfl
theorem hml164 : am_maxL 164 = 1 := rfl
theorem hlsl164 : am_lsl 164 = [] := rfl
theorem hc165 : am_code 165 = cJ5_checkIndex := rfl
theorem ho165 : am_cls 165 = 15 := rfl
theorem hst165 : am_stc 165 = true := rfl
theorem hnp165 : am_np 165 = 2 := rfl
theorem hml165 : am_maxL 165 = 2 := rfl
theorem hlsl165 : am_lsl 165 = [] := rfl
theorem hc166 : am_code 166 = cJ5_checkBoundsOffCount := rfl
theorem ho166 : am_cls 166 = 15 := rfl
theorem hst166 : am_stc 166 = true := rfl
theorem hnp166 : am_np 166 = 3 := rfl
theorem hml166 : am_maxL 166 = 3 := rfl
theorem hlsl166 : am_lsl 166 = [] := rfl
theorem hc167 : am_code 167 = cJ5_length := rfl
theorem ho167 : am_cls 167 = 15 := rfl
theorem hst167 : am_stc 167 = false := rfl
theorem hnp167 : am_np 167 = 0 := rfl
theorem hml167 : am_maxL 167 = 1 := rfl
theorem hlsl167 : am_lsl 167 = [] := rfl
theorem hc168 : am_code 168 = cJ5_coder := rfl
theorem ho168 : am_cls 168 = 15 := rfl
theorem hst168 : am_stc 168 = false := rfl
theorem hnp168 : am_np 168 = 0 := rfl
theorem hml168 : am_maxL 168 = 1 := rfl
theorem hlsl168 : am_lsl 168 = [] := rfl
theorem hc169 : am_code 169 = cJ5_getBytes := rfl
theorem ho169 : am_cls 169 = 15 := rfl
theorem hst169 : am_stc 169 = false := rfl
theorem hnp169 : am_np 169 = 3 := rfl
theorem hml169 : am_maxL 169 = 4 := rfl
theorem hlsl169 : am_lsl 169 = [] := rfl
theorem hc170 : am_code 170 = cJ7_stringSize := rfl
theorem ho170 : am_cls 170 = 17 := rfl
theorem hst170 : am_stc 170 = true := rfl
theorem hnp170 : am_np 170 = 1 := rfl
theorem hml170 : am_maxL 170 = 4 := rfl
theorem hlsl170 : am_lsl 170 = [] := rfl
theorem hc171 : am_code 171 = cJ7_getChars := rfl
theorem ho171 : am_cls 171 = 17 := rfl
theorem hst171 : am_stc 171 = true := rfl
theorem hnp171 : am_np 171 = 3 := rfl
theorem hml171 : am_maxL 171 = 7 := rfl
theorem hlsl171 : am_lsl 171 = [] := rfl
theorem hc172 : am_code 172 = cJ8_newLength := rfl
theorem ho172 : am_cls 172 = 18 := rfl
theorem hst172 : am_stc 172 = true := rfl
theorem hnp172 : am_np 172 = 3 := rfl
theorem hml172 : am_maxL 172 = 4 := rfl
theorem hlsl172 : am_lsl 172 = [] := rfl
theorem hc173 : am_code 173 = cJ8_hugeLength := rfl
theorem ho173 : am_cls 173 = 18 := rfl
theorem hst173 : am_stc 173 = true := rfl
theorem hnp173 : am_np 173 = 2 := rfl
theorem hml173 : am_maxL 173 = 3 := rfl
theorem hlsl173 : am_lsl 173 = [] := rfl
theorem hc174 : am_code 174 = cJ10_checkFromToIndex := rfl
theorem ho174 : am_cls 174 = 20 := rfl
theorem hst174 : am_stc 174 = true := rfl
theorem hnp174 : am_np 174 = 4 := rfl
theorem hml174 : am_maxL 174 = 4 := rfl
theorem hlsl174 : am_lsl 174 = [] := rfl
theorem hc175 : am_code 175 = cJ10_checkIndex := rfl
theorem ho175 : am_cls 175 = 20 := rfl
theorem hst175 : am_stc 175 = true := rfl
theorem hnp175 : am_np 175 = 3 := rfl
theorem hml175 : am_maxL 175 = 3 := rfl
theorem hlsl175 : am_lsl 175 = [] := rfl
theorem hc176 : am_code 176 = cJ10_checkFromIndexSize := rfl
theorem ho176 : am_cls 176 = 20 := rfl
theorem hst176 : am_stc 176 = true := rfl
theorem hnp176 : am_np 176 = 4 := rfl
theorem hml176 : am_maxL 176 = 4 := rfl
theorem hlsl176 : am_lsl 176 = [] := rfl
theorem hc177 : am_code 177 = cJ11_charAt := rfl
theorem ho177 : am_cls 177 = 21 := rfl
theorem hst177 : am_stc 177 = true := rfl
theorem hnp177 : am_np 177 = 2 := rfl
theorem hml177 : am_maxL 177 = 2 := rfl
theorem hlsl177 : am_lsl 177 = [] := rfl
theorem hc178 : am_code 178 = cJ11_canEncode := rfl
theorem ho178 : am_cls 178 = 21 := rfl
theorem hst178 : am_stc 178 = true := rfl
theorem hnp178 : am_np 178 = 1 := rfl
theorem hml178 : am_maxL 178 = 1 := rfl
theorem hlsl178 : am_lsl 178 = [] := rfl
theorem hc179 : am_code 179 = cJ11_inflate := rfl
theorem ho179 : am_cls 179 = 21 := rfl
theorem hst179 : am_stc 179 = true := rfl
theorem hnp179 : am_np 179 = 5 := rfl
theorem hml179 : am_maxL 179 = 5 := rfl
theorem hlsl179 : am_lsl 179 = [] := rfl
theorem hc180 : am_code 180 = cL_law := rfl
theorem ho180 : am_cls 180 = 9 := rfl
theorem hst180 : am_stc 180 = true := rfl
theorem hnp180 : am_np 180 = 1 := rfl
theorem hml180 : am_maxL 180 = 4 := rfl
theorem hlsl180 : am_lsl 180 = [] := rfl
theorem sp5_1 : am_lk am_specL 5 1 = some 0 := by decide +kernel
theorem nc5_1 : am_lk am_callL 5 1 = none := by decide +kernel
theorem fl5_7 : am_fld 5 7 = some (5, 0, false) := by decide +kernel
theorem fl5_13 : am_fld 5 13 = some (5, 1, false) := by decide +kernel
theorem fl5_16 : am_fld 5 16 = some (5, 3, false) := by decide +kernel
theorem fl5_19 : am_fld 5 19 = some (5, 4, false) := by decide +kernel
theorem fl5_22 : am_fld 5 22 = some (5, 6, false) := by decide +kernel
theorem fl5_25 : am_fld 5 25 = some (5, 8, false) := by decide +kernel
theorem fl5_28 : am_fld 5 28 = some (5, 11, false) := by decide +kernel
theorem fl5_31 : am_fld 5 31 = some (5, 13, false) := by decide +kernel
theorem fl5_34 : am_fld 5 34 = some (5, 15, false) := by decide +kernel
theorem fl5_37 : am_fld 5 37 = some (5, 16, false) := by decide +kernel
theorem fl5_40 : am_fld 5 40 = some (5, 17, false) := by decide +kernel
theorem fl5_43 : am_fld 5 43 = some (5, 20, false) := by decide +kernel
theorem fl5_46 : am_fld 5 46 = some (5, 21, false) := by decide +kernel
theorem cl5_62 : am_lk am_callL 5 62 = some (0, 60) := by decide +kernel
theorem ns5_62 : am_lk am_specL 5 62 = none := by decide +kernel
theorem l25_66 : am_lk am_ldc2L 5 66 = some ((nI 3 : Int32).toInt64) := by decide +kernel
theorem cl5_55 : am_lk am_callL 5 55 = some (0, 61) := by decide +kernel
theorem ns5_55 : am_lk am_specL 5 55 = none := by decide +kernel
theorem cl5_68 : am_lk am_callL 5 68 = some (2, 62) := by decide +kernel
theorem ns5_68 : am_lk am_specL 5 68 = none := by decide +kernel
theorem cl5_72 : am_lk am_callL 5 72 = some (2, 64) := by decide +kernel
theorem ns5_72 : am_lk am_specL 5 72 = none := by decide +kernel
theorem l25_53 : am_lk am_ldc2L 5 53 = some ((nI 5 : Int32).toInt64) := by decide +kernel
theorem cl5_59 : am_lk am_callL 5 59 = some (2, 63) := by decide +kernel
theorem ns5_59 : am_lk am_specL 5 59 = none := by decide +kernel
theorem fl5_49 : am_fld 5 49 = some (5, 2, false) := by decide +kernel
theorem l25_76 : am_lk am_ldc2L 5 76 = some ((nI 4 : Int32).toInt64) := by decide +kernel
theorem cl5_82 : am_lk am_callL 5 82 = some (2, 67) := by decide +kernel
theorem ns5_82 : am_lk am_specL 5 82 = none := by decide +kernel
theorem l25_78 : am_lk am_ldc2L 5 78 = some (((-1) : Int32).toInt64) := by decide +kernel
theorem l25_80 : am_lk am_ldc2L 5 80 = some ((nI 99 : Int32).toInt64) := by decide +kernel
theorem cl5_99 : am_lk am_callL 5 99 = some (2, 70) := by decide +kernel
theorem ns5_99 : am_lk am_specL 5 99 = none := by decide +kernel
theorem cl5_96 : am_lk am_callL 5 96 = some (2, 71) := by decide +kernel
theorem ns5_96 : am_lk am_specL 5 96 = none := by decide +kernel
theorem cl5_86 : am_lk am_callL 5 86 = some (2, 72) := by decide +kernel
theorem ns5_86 : am_lk am_specL 5 86 = none := by decide +kernel
theorem cl5_89 : am_lk am_callL 5 89 = some (2, 73) := by decide +kernel
theorem ns5_89 : am_lk am_specL 5 89 = none := by decide +kernel
theorem cl5_92 : am_lk am_callL 5 92 = some (2, 74) := by decide +kernel
theorem ns5_92 : am_lk am_specL 5 92 = none := by decide +kernel
theorem l25_102 : am_lk am_ldc2L 5 102 = some ((nI 2 : Int32).toInt64) := by decide +kernel
theorem cl5_104 : am_lk am_callL 5 104 = some (2, 77) := by decide +kernel
theorem ns5_104 : am_lk am_specL 5 104 = none := by decide +kernel
theorem cl5_108 : am_lk am_callL 5 108 = some (2, 82) := by decide +kernel
theorem ns5_108 : am_lk am_specL 5 108 = none := by decide +kernel
theorem l25_117 : am_lk am_ldc2L 5 117 = some ((nI 127 : Int32).toInt64) := by decide +kernel
theorem fl5_119 : am_fld 5 119 = some (5, 5, false) := by decide +kernel
theorem fl5_139 : am_fld 5 139 = some (5, 10, false) := by decide +kernel
theorem fl5_151 : am_fld 5 151 = some (5, 7, false) := by decide +kernel
theorem fl5_157 : am_fld 5 157 = some (5, 9, false) := by decide +kernel
theorem cl5_164 : am_lk am_callL 5 164 = some (2, 86) := by decide +kernel
theorem ns5_164 : am_lk am_specL 5 164 = none := by decide +kernel
theorem cl5_142 : am_lk am_callL 5 142 = some (2, 87) := by decide +kernel
theorem ns5_142 : am_lk am_specL 5 142 = none := by decide +kernel
theorem cl5_145 : am_lk am_callL 5 145 = some (0, 88) := by decide +kernel
theorem ns5_145 : am_lk am_specL 5 145 = none := by decide +kernel
theorem cl5_126 : am_lk am_callL 5 126 = some (0, 89) := by decide +kernel
theorem ns5_126 : am_lk am_specL 5 126 = none := by decide +kernel
theorem cl5_148 : am_lk am_callL 5 148 = some (2, 90) := by decide +kernel
theorem ns5_148 : am_lk am_specL 5 148 = none := by decide +kernel
theorem cl5_111 : am_lk am_callL 5 111 = some (0, 91) := by decide +kernel
theorem ns5_111 : am_lk am_specL 5 111 = none := by decide +kernel
theorem cl5_154 : am_lk am_callL 5 154 = some (2, 92) := by decide +kernel
theorem ns5_154 : am_lk am_specL 5 154 = none := by decide +kernel
theorem cl5_160 : am_lk am_callL 5 160 = some (2, 94) := by decide +kernel
theorem ns5_160 : am_lk am_specL 5 160 = none := by decide +kernel
theorem l25_122 : am_lk am_ldc2L 5 122 = some ((nI 48 : Int32).toInt64) := by decide +kernel
theorem l25_124 : am_lk am_ldc2L 5 124 = some ((nI 57 : Int32).toInt64) := by decide +kernel
theorem l25_129 : am_lk am_ldc2L 5 129 = some ((nI 97 : Int32).toInt64) := by decide +kernel
theorem l25_131 : am_lk am_ldc2L 5 131 = some ((nI 102 : Int32).toInt64) := by decide +kernel
theorem l25_133 : am_lk am_ldc2L 5 133 = some ((nI 65 : Int32).toInt64) := by decide +kernel
theorem l25_135 : am_lk am_ldc2L 5 135 = some ((nI 70 : Int32).toInt64) := by decide +kernel
theorem l25_137 : am_lk am_ldc2L 5 137 = some ((nI 112 : Int32).toInt64) := by decide +kernel
theorem cl5_114 : am_lk am_callL 5 114 = some (0, 93) := by decide +kernel
theorem ns5_114 : am_lk am_specL 5 114 = none := by decide +kernel
theorem fl5_185 : am_fld 5 185 = some (5, 19, false) := by decide +kernel
theorem fl5_173 : am_fld 5 173 = some (5, 12, false) := by decide +kernel
theorem fl5_170 : am_fld 5 170 = some (5, 14, false) := by decide +kernel
theorem fl5_207 : am_fld 5 207 = some (5, 18, false) := by decide +kernel
theorem cl5_167 : am_lk am_callL 5 167 = some (0, 96) := by decide +kernel
theorem ns5_167 : am_lk am_specL 5 167 = none := by decide +kernel
theorem cl5_210 : am_lk am_callL 5 210 = some (2, 97) := by decide +kernel
theorem ns5_210 : am_lk am_specL 5 210 = none := by decide +kernel
theorem cl5_213 : am_lk am_callL 5 213 = some (2, 108) := by decide +kernel
theorem ns5_213 : am_lk am_specL 5 213 = none := by decide +kernel
theorem cl5_217 : am_lk am_callL 5 217 = some (2, 98) := by decide +kernel
theorem ns5_217 : am_lk am_specL 5 217 = none := by decide +kernel
theorem cl5_194 : am_lk am_callL 5 194 = some (2, 99) := by decide +kernel
theorem ns5_194 : am_lk am_specL 5 194 = none := by decide +kernel
theorem cl5_198 : am_lk am_callL 5 198 = some (2, 100) := by decide +kernel
theorem ns5_198 : am_lk am_specL 5 198 = none := by decide +kernel
theorem cl5_201 : am_lk am_callL 5 201 = some (2, 101) := by decide +kernel
theorem ns5_201 : am_lk am_specL 5 201 = none := by decide +kernel
theorem cl5_204 : am_lk am_callL 5 204 = some (2, 107) := by decide +kernel
theorem ns5_204 : am_lk am_specL 5 204 = none := by decide +kernel
theorem cl5_176 : am_lk am_callL 5 176 = some (2, 102) := by decide +kernel
theorem ns5_176 : am_lk am_specL 5 176 = none := by decide +kernel
theorem cl5_179 : am_lk am_callL 5 179 = some (2, 103) := by decide +kernel
theorem ns5_179 : am_lk am_specL 5 179 = none := by decide +kernel
theorem cl5_182 : am_lk am_callL 5 182 = some (2, 104) := by decide +kernel
theorem ns5_182 : am_lk am_specL 5 182 = none := by decide +kernel
theorem cl5_188 : am_lk am_callL 5 188 = some (2, 105) := by decide +kernel
theorem ns5_188 : am_lk am_specL 5 188 = none := by decide +kernel
theorem cl5_191 : am_lk am_callL 5 191 = some (2, 106) := by decide +kernel
theorem ns5_191 : am_lk am_specL 5 191 = none := by decide +kernel
theorem l25_220 : am_lk am_ldc2L 5 220 = some ((nI 7 : Int32).toInt64) := by decide +kernel
theorem cl5_222 : am_lk am_callL 5 222 = some (2, 111) := by decide +kernel
theorem ns5_222 : am_lk am_specL 5 222 = none := by decide +kernel
theorem l25_225 : am_lk am_ldc2L 5 225 = some ((nI 999 : Int32).toInt64) := by decide +kernel
theorem cl5_239 : am_lk am_callL 5 239 = some (2, 115) := by decide +kernel
theorem ns5_239 : am_lk am_specL 5 239 = none := by decide +kernel
theorem fl5_227 : am_fld 5 227 = some (5, 22, false) := by decide +kernel
theorem cl5_233 : am_lk am_callL 5 233 = some (2, 116) := by decide +kernel
theorem ns5_233 : am_lk am_specL 5 233 = none := by decide +kernel
theorem cl5_230 : am_lk am_callL 5 230 = some (2, 117) := by decide +kernel
theorem ns5_230 : am_lk am_specL 5 230 = none := by decide +kernel
theorem cl5_236 : am_lk am_callL 5 236 = some (2, 118) := by decide +kernel
theorem ns5_236 : am_lk am_specL 5 236 = none := by decide +kernel
theorem l25_242 : am_lk am_ldc2L 5 242 = some (((-5) : Int32).toInt64) := by decide +kernel
theorem l25_244 : am_lk am_ldc2L 5 244 = some (((-2) : Int32).toInt64) := by decide +kernel
theorem l25_246 : am_lk am_ldc2L 5 246 = some ((nI 2683 : Int32).toInt64) := by decide +kernel
theorem l25_248 : am_lk am_ldc2L 5 248 = some ((nI 31 : Int32).toInt64) := by decide +kernel
theorem sp0_1 : am_lk am_specL 0 1 = some 0 := by decide +kernel
theorem nc0_1 : am_lk am_callL 0 1 = none := by decide +kernel
theorem nw0_7 : am_lk am_newL 0 7 = some 1 := by decide +kernel
theorem cl0_9 : am_lk am_callL 0 9 = some (5, 36) := by decide +kernel
theorem ns0_9 : am_lk am_specL 0 9 = none := by decide +kernel
theorem fl0_10 : am_fld 0 10 = some (0, 0, false) := by decide +kernel
theorem nr0_7 : am_lk am_anewL 0 7 = some 3 := by decide +kernel
theorem fl0_16 : am_fld 0 16 = some (0, 1, false) := by decide +kernel
theorem fl0_20 : am_fld 0 20 = some (0, 3, false) := by decide +kernel
theorem fl0_24 : am_fld 0 24 = some (0, 5, false) := by decide +kernel
theorem nw0_28 : am_lk am_newL 0 28 = some 4 := by decide +kernel
theorem cl0_30 : am_lk am_callL 0 30 = some (5, 50) := by decide +kernel
theorem ns0_30 : am_lk am_specL 0 30 = none := by decide +kernel
theorem fl0_33 : am_fld 0 33 = some (0, 6, false) := by decide +kernel
theorem fl0_81 : am_fld 0 81 = some (1, 0, true) := by decide +kernel
theorem cl0_85 : am_lk am_callL 0 85 = some (2, 2) := by decide +kernel
theorem ns0_85 : am_lk am_specL 0 85 = none := by decide +kernel
theorem cl0_55 : am_lk am_callL 0 55 = some (0, 3) := by decide +kernel
theorem ns0_55 : am_lk am_specL 0 55 = none := by decide +kernel
theorem cl0_51 : am_lk am_callL 0 51 = some (0, 4) := by decide +kernel
theorem ns0_51 : am_lk am_specL 0 51 = none := by decide +kernel
theorem cl0_59 : am_lk am_callL 0 59 = some (2, 5) := by decide +kernel
theorem ns0_59 : am_lk am_specL 0 59 = none := by decide +kernel
theorem cl0_63 : am_lk am_callL 0 63 = some (2, 6) := by decide +kernel
theorem ns0_63 : am_lk am_specL 0 63 = none := by decide +kernel
theorem fl0_66 : am_fld 0 66 = some (3, 0, true) := by decide +kernel
theorem cl0_71 : am_lk am_callL 0 71 = some (2, 47) := by decide +kernel
theorem ns0_71 : am_lk am_specL 0 71 = none := by decide +kernel
theorem fl0_37 : am_fld 0 37 = some (0, 2, false) := by decide +kernel
theorem sp0_41 : am_lk am_specL 0 41 = some 1 := by decide +kernel
theorem nc0_41 : am_lk am_callL 0 41 = none := by decide +kernel
theorem cl0_47 : am_lk am_callL 0 47 = some (2, 37) := by decide +kernel
theorem ns0_47 : am_lk am_specL 0 47 = none := by decide +kernel
theorem fl0_89 : am_fld 0 89 = some (1, 1, true) := by decide +kernel
theorem cl0_92 : am_lk am_callL 0 92 = some (2, 9) := by decide +kernel
theorem ns0_92 : am_lk am_specL 0 92 = none := by decide +kernel
theorem cl0_75 : am_lk am_callL 0 75 = some (2, 48) := by decide +kernel
theorem ns0_75 : am_lk am_specL 0 75 = none := by decide +kernel
theorem cl0_78 : am_lk am_callL 0 78 = some (2, 49) := by decide +kernel
theorem ns0_78 : am_lk am_specL 0 78 = none := by decide +kernel
theorem fl0_99 : am_fld 0 99 = some (1, 5, true) := by decide +kernel
theorem nw0_103 : am_lk am_newL 0 103 = some 6 := by decide +kernel
theorem cl0_105 : am_lk am_callL 0 105 = some (4, 122) := by decide +kernel
theorem ns0_105 : am_lk am_specL 0 105 = none := by decide +kernel
theorem fl0_108 : am_fld 0 108 = some (6, 1, true) := by decide +kernel
theorem cl0_111 : am_lk am_callL 0 111 = some (4, 123) := by decide +kernel
theorem ns0_111 : am_lk am_specL 0 111 = none := by decide +kernel
theorem cl0_114 : am_lk am_callL 0 114 = some (2, 12) := by decide +kernel
theorem ns0_114 : am_lk am_specL 0 114 = none := by decide +kernel
theorem cl0_96 : am_lk am_callL 0 96 = some (2, 38) := by decide +kernel
theorem ns0_96 : am_lk am_specL 0 96 = none := by decide +kernel
theorem fl0_117 : am_fld 0 117 = some (6, 0, true) := by decide +kernel
theorem cl0_127 : am_lk am_callL 0 127 = some (2, 15) := by decide +kernel
theorem ns0_127 : am_lk am_specL 0 127 = none := by decide +kernel
theorem cl0_120 : am_lk am_callL 0 120 = some (0, 16) := by decide +kernel
theorem ns0_120 : am_lk am_specL 0 120 = none := by decide +kernel
theorem cl0_123 : am_lk am_callL 0 123 = some (2, 128) := by decide +kernel
theorem ns0_123 : am_lk am_specL 0 123 = none := by decide +kernel
theorem fl0_131 : am_fld 0 131 = some (1, 6, true) := by decide +kernel
theorem fl0_134 : am_fld 0 134 = some (1, 4, true) := by decide +kernel
theorem fl0_137 : am_fld 0 137 = some (0, 4, false) := by decide +kernel
theorem cl0_140 : am_lk am_callL 0 140 = some (2, 51) := by decide +kernel
theorem ns0_140 : am_lk am_specL 0 140 = none := by decide +kernel
theorem fl0_144 : am_fld 0 144 = some (1, 7, true) := by decide +kernel
theorem fl0_148 : am_fld 0 148 = some (2, 3, true) := by decide +kernel
theorem fl0_155 : am_fld 0 155 = some (7, 6, true) := by decide +kernel
theorem fl0_158 : am_fld 0 158 = some (1, 8, true) := by decide +kernel
theorem cl0_161 : am_lk am_callL 0 161 = some (0, 138) := by decide +kernel
theorem ns0_161 : am_lk am_specL 0 161 = none := by decide +kernel
theorem nw0_167 : am_lk am_newL 0 167 = some 8 := by decide +kernel
theorem cl0_169 : am_lk am_callL 0 169 = some (5, 130) := by decide +kernel
theorem ns0_169 : am_lk am_specL 0 169 = none := by decide +kernel
theorem cl0_170 : am_lk am_callL 0 170 = some (2, 131) := by decide +kernel
theorem ns0_170 : am_lk am_specL 0 170 = none := by decide +kernel
theorem fl0_174 : am_fld 0 174 = some (8, 1, true) := by decide +kernel
theorem cl0_177 : am_lk am_callL 0 177 = some (2, 43) := by decide +kernel
theorem ns0_177 : am_lk am_specL 0 177 = none := by decide +kernel
theorem cl0_181 : am_lk am_callL 0 181 = some (2, 41) := by decide +kernel
theorem ns0_181 : am_lk am_specL 0 181 = none := by decide +kernel
theorem cl0_192 : am_lk am_callL 0 192 = some (2, 30) := by decide +kernel
theorem ns0_192 : am_lk am_specL 0 192 = none := by decide +kernel
theorem cl0_196 : am_lk am_callL 0 196 = some (2, 160) := by decide +kernel
theorem ns0_196 : am_lk am_specL 0 196 = none := by decide +kernel
theorem cl0_199 : am_lk am_callL 0 199 = some (2, 161) := by decide +kernel
theorem ns0_199 : am_lk am_specL 0 199 = none := by decide +kernel
theorem nw0_185 : am_lk am_newL 0 185 = some 9 := by decide +kernel
theorem cl0_187 : am_lk am_callL 0 187 = some (4, 156) := by decide +kernel
theorem ns0_187 : am_lk am_specL 0 187 = none := by decide +kernel
theorem cl0_188 : am_lk am_callL 0 188 = some (2, 44) := by decide +kernel
theorem ns0_188 : am_lk am_specL 0 188 = none := by decide +kernel
theorem l20_218 : am_lk am_ldc2L 0 218 = some ((nI 2683 : Int32).toInt64) := by decide +kernel
theorem cl0_211 : am_lk am_callL 0 211 = some (0, 34) := by decide +kernel
theorem ns0_211 : am_lk am_specL 0 211 = none := by decide +kernel
theorem cl0_220 : am_lk am_callL 0 220 = some (0, 35) := by decide +kernel
theorem ns0_220 : am_lk am_specL 0 220 = none := by decide +kernel
theorem l20_203 : am_lk am_ldc2L 0 203 = some ((nI 31 : Int32).toInt64) := by decide +kernel
theorem fl0_205 : am_fld 0 205 = some (3, 1, true) := by decide +kernel
theorem fl0_208 : am_fld 0 208 = some (3, 2, true) := by decide +kernel
theorem fl0_215 : am_fld 0 215 = some (3, 3, true) := by decide +kernel
theorem sp1_3 : am_lk am_specL 1 3 = some 0 := by decide +kernel
theorem nc1_3 : am_lk am_callL 1 3 = none := by decide +kernel
theorem nr1_9 : am_lk am_anewL 1 9 = some 0 := by decide +kernel
theorem fl1_11 : am_fld 1 11 = some (1, 0, false) := by decide +kernel
theorem fl1_17 : am_fld 1 17 = some (1, 1, false) := by decide +kernel
theorem fl1_20 : am_fld 1 20 = some (1, 2, false) := by decide +kernel
theorem fl1_23 : am_fld 1 23 = some (1, 4, false) := by decide +kernel
theorem nr1_27 : am_lk am_anewL 1 27 = some 1 := by decide +kernel
theorem fl1_29 : am_fld 1 29 = some (1, 5, false) := by decide +kernel
theorem nw1_33 : am_lk am_newL 1 33 = some 2 := by decide +kernel
theorem nr1_33 : am_lk am_anewL 1 33 = some 2 := by decide +kernel
theorem cl1_35 : am_lk am_callL 1 35 = some (4, 42) := by decide +kernel
theorem ns1_35 : am_lk am_specL 1 35 = none := by decide +kernel
theorem fl1_38 : am_fld 1 38 = some (1, 7, false) := by decide +kernel
theorem fl1_42 : am_fld 1 42 = some (1, 8, false) := by decide +kernel
theorem nw1_9 : am_lk am_newL 1 9 = some 3 := by decide +kernel
theorem cl1_45 : am_lk am_callL 1 45 = some (4, 45) := by decide +kernel
theorem ns1_45 : am_lk am_specL 1 45 = none := by decide +kernel
theorem cl1_46 : am_lk am_callL 1 46 = some (0, 137) := by decide +kernel
theorem ns1_46 : am_lk am_specL 1 46 = none := by decide +kernel
theorem cl1_52 : am_lk am_callL 1 52 = some (0, 138) := by decide +kernel
theorem ns1_52 : am_lk am_specL 1 52 = none := by decide +kernel
theorem sp1_55 : am_lk am_specL 1 55 = some 1 := by decide +kernel
theorem nc1_55 : am_lk am_callL 1 55 = none := by decide +kernel
theorem fl1_61 : am_fld 1 61 = some (1, 3, false) := by decide +kernel
theorem fl1_65 : am_fld 1 65 = some (1, 6, false) := by decide +kernel
theorem fl1_98 : am_fld 1 98 = some (6, 0, true) := by decide +kernel
theorem cl1_101 : am_lk am_callL 1 101 = some (2, 124) := by decide +kernel
theorem ns1_101 : am_lk am_specL 1 101 = none := by decide +kernel
theorem fl1_68 : am_fld 1 68 = some (2, 0, true) := by decide +kernel
theorem cl1_74 : am_lk am_callL 1 74 = some (2, 40) := by decide +kernel
theorem ns1_74 : am_lk am_specL 1 74 = none := by decide +kernel
theorem fl1_78 : am_fld 1 78 = some (3, 1, true) := by decide +kernel
theorem fl1_81 : am_fld 1 81 = some (2, 2, true) := by decide +kernel
theorem cl1_85 : am_lk am_callL 1 85 = some (2, 39) := by decide +kernel
theorem ns1_85 : am_lk am_specL 1 85 = none := by decide +kernel
theorem fl1_71 : am_fld 1 71 = some (2, 1, true) := by decide +kernel
theorem fl1_89 : am_fld 1 89 = some (3, 2, true) := by decide +kernel
theorem fl1_92 : am_fld 1 92 = some (3, 3, true) := by decide +kernel
theorem cl1_95 : am_lk am_callL 1 95 = some (2, 41) := by decide +kernel
theorem ns1_95 : am_lk am_specL 1 95 = none := by decide +kernel
theorem sp2_3 : am_lk am_specL 2 3 = some 0 := by decide +kernel
theorem nc2_3 : am_lk am_callL 2 3 = none := by decide +kernel
theorem fl2_9 : am_fld 2 9 = some (2, 0, false) := by decide +kernel
theorem fl2_15 : am_fld 2 15 = some (2, 1, false) := by decide +kernel
theorem fl2_18 : am_fld 2 18 = some (2, 2, false) := by decide +kernel
theorem fl2_22 : am_fld 2 22 = some (2, 3, false) := by decide +kernel
theorem cl2_25 : am_lk am_callL 2 25 = some (2, 43) := by decide +kernel
theorem ns2_25 : am_lk am_specL 2 25 = none := by decide +kernel
theorem cl2_29 : am_lk am_callL 2 29 = some (2, 157) := by decide +kernel
theorem ns2_29 : am_lk am_specL 2 29 = none := by decide +kernel
theorem lc2_35 : am_lk am_ldcL 2 35 = some (.retAddr 1) := rfl
theorem cl2_37 : am_lk am_callL 2 37 = some (2, 163) := by decide +kernel
theorem ns2_37 : am_lk am_specL 2 37 = none := by decide +kernel
theorem cl2_43 : am_lk am_callL 2 43 = some (2, 158) := by decide +kernel
theorem ns2_43 : am_lk am_specL 2 43 = none := by decide +kernel
theorem lc2_46 : am_lk am_ldcL 2 46 = some (.retAddr 2) := rfl
theorem lc2_48 : am_lk am_ldcL 2 48 = some (.retAddr 3) := rfl
theorem cl2_50 : am_lk am_callL 2 50 = some (2, 159) := by decide +kernel
theorem ns2_50 : am_lk am_specL 2 50 = none := by decide +kernel
theorem cl2_53 : am_lk am_callL 2 53 = some (2, 44) := by decide +kernel
theorem ns2_53 : am_lk am_specL 2 53 = none := by decide +kernel
theorem cl3_3 : am_lk am_callL 3 3 = some (4, 46) := by decide +kernel
theorem ns3_3 : am_lk am_specL 3 3 = none := by decide +kernel
theorem sp3_9 : am_lk am_specL 3 9 = some 0 := by decide +kernel
theorem nc3_9 : am_lk am_callL 3 9 = none := by decide +kernel
theorem fl3_14 : am_fld 3 14 = some (3, 0, false) := by decide +kernel
theorem fl3_18 : am_fld 3 18 = some (3, 1, false) := by decide +kernel
theorem fl3_21 : am_fld 3 21 = some (3, 2, false) := by decide +kernel
theorem fl3_24 : am_fld 3 24 = some (3, 3, false) := by decide +kernel
theorem nw3_4 : am_lk am_newL 3 4 = some 3 := by decide +kernel
theorem sp3_28 : am_lk am_specL 3 28 = some 2 := by decide +kernel
theorem nc3_28 : am_lk am_callL 3 28 = none := by decide +kernel
theorem ct3_29 : am_lk am_castL 3 29 = some 0 := by decide +kernel
theorem fl4_3 : am_fld 4 3 = some (4, 2, false) := by decide +kernel
theorem sp4_9 : am_lk am_specL 4 9 = some 0 := by decide +kernel
theorem nc4_9 : am_lk am_callL 4 9 = none := by decide +kernel
theorem fl4_15 : am_fld 4 15 = some (4, 0, false) := by decide +kernel
theorem fl4_56 : am_fld 4 56 = some (4, 1, false) := by decide +kernel
theorem cl4_52 : am_lk am_callL 4 52 = some (2, 52) := by decide +kernel
theorem ns4_52 : am_lk am_specL 4 52 = none := by decide +kernel
theorem fl4_19 : am_fld 4 19 = some (0, 4, true) := by decide +kernel
theorem cl4_39 : am_lk am_callL 4 39 = some (2, 53) := by decide +kernel
theorem ns4_39 : am_lk am_specL 4 39 = none := by decide +kernel
theorem fl4_22 : am_fld 4 22 = some (0, 3, true) := by decide +kernel
theorem cl4_26 : am_lk am_callL 4 26 = some (1, 4) := by decide +kernel
theorem ns4_26 : am_lk am_specL 4 26 = none := by decide +kernel
theorem cl4_59 : am_lk am_callL 4 59 = some (2, 54) := by decide +kernel
theorem ns4_59 : am_lk am_specL 4 59 = none := by decide +kernel
theorem nw4_43 : am_lk am_newL 4 43 = some 2 := by decide +kernel
theorem nr4_43 : am_lk am_anewL 4 43 = some 2 := by decide +kernel
theorem cl4_45 : am_lk am_callL 4 45 = some (4, 42) := by decide +kernel
theorem ns4_45 : am_lk am_specL 4 45 = none := by decide +kernel
theorem fl4_62 : am_fld 4 62 = some (0, 0, true) := by decide +kernel
theorem fl4_66 : am_fld 4 66 = some (1, 0, true) := by decide +kernel
theorem fl4_72 : am_fld 4 72 = some (3, 0, true) := by decide +kernel
theorem cl4_77 : am_lk am_callL 4 77 = some (2, 56) := by decide +kernel
theorem ns4_77 : am_lk am_specL 4 77 = none := by decide +kernel
theorem fl4_81 : am_fld 4 81 = some (1, 1, true) := by decide +kernel
theorem fl4_84 : am_fld 4 84 = some (1, 3, true) := by decide +kernel
theorem fl4_87 : am_fld 4 87 = some (1, 2, true) := by decide +kernel
theorem nw4_30 : am_lk am_newL 4 30 = some 7 := by decide +kernel
theorem cl4_32 : am_lk am_callL 4 32 = some (4, 129) := by decide +kernel
theorem ns4_32 : am_lk am_specL 4 32 = none := by decide +kernel
theorem cl4_35 : am_lk am_callL 4 35 = some (2, 55) := by decide +kernel
theorem ns4_35 : am_lk am_specL 4 35 = none := by decide +kernel
theorem cl4_48 : am_lk am_callL 4 48 = some (2, 57) := by decide +kernel
theorem ns4_48 : am_lk am_specL 4 48 = none := by decide +kernel
theorem cl6_3 : am_lk am_callL 6 3 = some (4, 123) := by decide +kernel
theorem ns6_3 : am_lk am_specL 6 3 = none := by decide +kernel
theorem sp6_9 : am_lk am_specL 6 9 = some 0 := by decide +kernel
theorem nc6_9 : am_lk am_callL 6 9 = none := by decide +kernel
theorem fl6_14 : am_fld 6 14 = some (6, 0, false) := by decide +kernel
theorem fl6_18 : am_fld 6 18 = some (6, 1, false) := by decide +kernel
theorem cl6_38 : am_lk am_callL 6 38 = some (2, 125) := by decide +kernel
theorem ns6_38 : am_lk am_specL 6 38 = none := by decide +kernel
theorem fl6_32 : am_fld 6 32 = some (3, 2, true) := by decide +kernel
theorem cl6_42 : am_lk am_callL 6 42 = some (2, 126) := by decide +kernel
theorem ns6_42 : am_lk am_specL 6 42 = none := by decide +kernel
theorem fl6_27 : am_fld 6 27 = some (3, 0, true) := by decide +kernel
theorem fl6_35 : am_fld 6 35 = some (3, 3, true) := by decide +kernel
theorem cl6_46 : am_lk am_callL 6 46 = some (2, 127) := by decide +kernel
theorem ns6_46 : am_lk am_specL 6 46 = none := by decide +kernel
theorem sp6_22 : am_lk am_specL 6 22 = some 2 := by decide +kernel
theorem nc6_22 : am_lk am_callL 6 22 = none := by decide +kernel
theorem ct6_23 : am_lk am_castL 6 23 = some 0 := by decide +kernel
theorem nw6_4 : am_lk am_newL 6 4 = some 6 := by decide +kernel
theorem cl7_1 : am_lk am_callL 7 1 = some (4, 142) := by decide +kernel
theorem ns7_1 : am_lk am_specL 7 1 = none := by decide +kernel
theorem fl7_7 : am_fld 7 7 = some (7, 6, false) := by decide +kernel
theorem fl8_3 : am_fld 8 3 = some (8, 2, false) := by decide +kernel
theorem sp8_9 : am_lk am_specL 8 9 = some 0 := by decide +kernel
theorem nc8_9 : am_lk am_callL 8 9 = none := by decide +kernel
theorem fl8_15 : am_fld 8 15 = some (0, 0, true) := by decide +kernel
theorem fl8_19 : am_fld 8 19 = some (1, 7, true) := by decide +kernel
theorem fl8_25 : am_fld 8 25 = some (2, 3, true) := by decide +kernel
theorem fl8_31 : am_fld 8 31 = some (8, 0, false) := by decide +kernel
theorem fl8_34 : am_fld 8 34 = some (2, 2, true) := by decide +kernel
theorem nr8_26 : am_lk am_anewL 8 26 = some 2 := by decide +kernel
theorem cl8_38 : am_lk am_callL 8 38 = some (2, 131) := by decide +kernel
theorem ns8_38 : am_lk am_specL 8 38 = none := by decide +kernel
theorem nw8_26 : am_lk am_newL 8 26 = some 2 := by decide +kernel
theorem fl8_42 : am_fld 8 42 = some (2, 0, true) := by decide +kernel
theorem fl8_45 : am_fld 8 45 = some (2, 1, true) := by decide +kernel
theorem cl8_48 : am_lk am_callL 8 48 = some (4, 42) := by decide +kernel
theorem ns8_48 : am_lk am_specL 8 48 = none := by decide +kernel
theorem cl8_51 : am_lk am_callL 8 51 = some (2, 132) := by decide +kernel
theorem ns8_51 : am_lk am_specL 8 51 = none := by decide +kernel
theorem fl8_58 : am_fld 8 58 = some (1, 0, true) := by decide +kernel
theorem fl8_62 : am_fld 8 62 = some (3, 0, true) := by decide +kernel
theorem cl8_67 : am_lk am_callL 8 67 = some (2, 133) := by decide +kernel
theorem ns8_67 : am_lk am_specL 8 67 = none := by decide +kernel
theorem cl8_71 : am_lk am_callL 8 71 = some (2, 38) := by decide +kernel
theorem ns8_71 : am_lk am_specL 8 71 = none := by decide +kernel
theorem cl8_75 : am_lk am_callL 8 75 = some (2, 134) := by decide +kernel
theorem ns8_75 : am_lk am_specL 8 75 = none := by decide +kernel
theorem fl8_78 : am_fld 8 78 = some (1, 5, true) := by decide +kernel
theorem fl8_82 : am_fld 8 82 = some (1, 1, true) := by decide +kernel
theorem fl8_85 : am_fld 8 85 = some (6, 0, true) := by decide +kernel
theorem cl8_90 : am_lk am_callL 8 90 = some (2, 135) := by decide +kernel
theorem ns8_90 : am_lk am_specL 8 90 = none := by decide +kernel
theorem fl8_94 : am_fld 8 94 = some (6, 1, true) := by decide +kernel
theorem fl8_97 : am_fld 8 97 = some (8, 1, false) := by decide +kernel
theorem fl8_54 : am_fld 8 54 = some (1, 8, true) := by decide +kernel
theorem fl8_100 : am_fld 8 100 = some (1, 6, true) := by decide +kernel
theorem fl8_103 : am_fld 8 103 = some (1, 4, true) := by decide +kernel
theorem fl8_106 : am_fld 8 106 = some (1, 3, true) := by decide +kernel
theorem fl8_109 : am_fld 8 109 = some (1, 2, true) := by decide +kernel
theorem cl8_112 : am_lk am_callL 8 112 = some (2, 39) := by decide +kernel
theorem ns8_112 : am_lk am_specL 8 112 = none := by decide +kernel
theorem cl8_116 : am_lk am_callL 8 116 = some (2, 136) := by decide +kernel
theorem ns8_116 : am_lk am_specL 8 116 = none := by decide +kernel
theorem sp10_310 : am_lk am_specL 10 310 = some 3 := by decide +kernel
theorem nc10_310 : am_lk am_callL 10 310 = none := by decide +kernel
theorem ct10_311 : am_lk am_castL 10 311 = some 1 := by decide +kernel
theorem sp10_304 : am_lk am_specL 10 304 = some 5 := by decide +kernel
theorem nc10_304 : am_lk am_callL 10 304 = none := by decide +kernel
theorem sp10_150 : am_lk am_specL 10 150 = some 1 := by decide +kernel
theorem nc10_150 : am_lk am_callL 10 150 = none := by decide +kernel
theorem sp11_1 : am_lk am_specL 11 1 = some 0 := by decide +kernel
theorem nc11_1 : am_lk am_callL 11 1 = none := by decide +kernel
theorem fl11_7 : am_fld 11 7 = some (7, 0, false) := by decide +kernel
theorem gs11_13 : am_stat 11 13 = some (.retAddr 10, (am_stat 11 13).get!.2) := rfl
theorem fl11_17 : am_fld 11 17 = some (7, 1, false) := by decide +kernel
theorem gs11_20 : am_stat 11 20 = some (.retAddr 11, (am_stat 11 20).get!.2) := rfl
theorem fl11_24 : am_fld 11 24 = some (7, 2, false) := by decide +kernel
theorem fl11_31 : am_fld 11 31 = some (7, 3, false) := by decide +kernel
theorem cl12_16 : am_lk am_callL 12 16 = some (4, 141) := by decide +kernel
theorem ns12_16 : am_lk am_specL 12 16 = none := by decide +kernel
theorem sp13_3 : am_lk am_specL 13 3 = some 0 := by decide +kernel
theorem nc13_3 : am_lk am_callL 13 3 = none := by decide +kernel
theorem gs13_18 : am_stat 13 18 = some (.int (nI 1), (am_stat 13 18).get!.2) := rfl
theorem fl13_15 : am_fld 13 15 = some (9, 0, false) := by decide +kernel
theorem fl13_22 : am_fld 13 22 = some (9, 1, false) := by decide +kernel
theorem fl13_79 : am_fld 13 79 = some (9, 3, false) := by decide +kernel
theorem cl13_245 : am_lk am_callL 13 245 = some (0, 170) := by decide +kernel
theorem ns13_245 : am_lk am_specL 13 245 = none := by decide +kernel
theorem cl13_100 : am_lk am_callL 13 100 = some (3, 145) := by decide +kernel
theorem ns13_100 : am_lk am_specL 13 100 = none := by decide +kernel
theorem cl13_83 : am_lk am_callL 13 83 = some (3, 147) := by decide +kernel
theorem ns13_83 : am_lk am_specL 13 83 = none := by decide +kernel
theorem cl13_248 : am_lk am_callL 13 248 = some (0, 171) := by decide +kernel
theorem ns13_248 : am_lk am_specL 13 248 = none := by decide +kernel
theorem cl13_104 : am_lk am_callL 13 104 = some (3, 146) := by decide +kernel
theorem ns13_104 : am_lk am_specL 13 104 = none := by decide +kernel
theorem cl13_108 : am_lk am_callL 13 108 = some (0, 139) := by decide +kernel
theorem ns13_108 : am_lk am_specL 13 108 = none := by decide +kernel
theorem cl13_114 : am_lk am_callL 13 114 = some (0, 172) := by decide +kernel
theorem ns13_114 : am_lk am_specL 13 114 = none := by decide +kernel
theorem lc13_39 : am_lk am_ldcL 13 39 = some (.int (nI 2147483647)) := rfl
theorem cl13_191 : am_lk am_callL 13 191 = some (0, 178) := by decide +kernel
theorem ns13_191 : am_lk am_specL 13 191 = none := by decide +kernel
theorem cl13_195 : am_lk am_callL 13 195 = some (3, 149) := by decide +kernel
theorem ns13_195 : am_lk am_specL 13 195 = none := by decide +kernel
theorem cl13_125 : am_lk am_callL 13 125 = some (0, 179) := by decide +kernel
theorem ns13_125 : am_lk am_specL 13 125 = none := by decide +kernel
theorem cl13_204 : am_lk am_callL 13 204 = some (3, 151) := by decide +kernel
theorem ns13_204 : am_lk am_specL 13 204 = none := by decide +kernel
theorem cl13_32 : am_lk am_callL 13 32 = some (2, 167) := by decide +kernel
theorem ns13_32 : am_lk am_specL 13 32 = none := by decide +kernel
theorem cl13_208 : am_lk am_callL 13 208 = some (3, 152) := by decide +kernel
theorem ns13_208 : am_lk am_specL 13 208 = none := by decide +kernel
theorem cl13_397 : am_lk am_callL 13 397 = some (3, 153) := by decide +kernel
theorem ns13_397 : am_lk am_specL 13 397 = none := by decide +kernel
theorem cl13_399 : am_lk am_callL 13 399 = some (2, 169) := by decide +kernel
theorem ns13_399 : am_lk am_specL 13 399 = none := by decide +kernel
theorem cl13_40 : am_lk am_callL 13 40 = some (2, 168) := by decide +kernel
theorem ns13_40 : am_lk am_specL 13 40 = none := by decide +kernel
theorem sp13_138 : am_lk am_specL 13 138 = some 5 := by decide +kernel
theorem nc13_138 : am_lk am_callL 13 138 = none := by decide +kernel
theorem cl13_144 : am_lk am_callL 13 144 = some (0, 165) := by decide +kernel
theorem ns13_144 : am_lk am_specL 13 144 = none := by decide +kernel
theorem cl14_1 : am_lk am_callL 14 1 = some (4, 143) := by decide +kernel
theorem ns14_1 : am_lk am_specL 14 1 = none := by decide +kernel
theorem cl14_53 : am_lk am_callL 14 53 = some (6, 144) := by decide +kernel
theorem ns14_53 : am_lk am_specL 14 53 = none := by decide +kernel
theorem cl14_50 : am_lk am_callL 14 50 = some (6, 148) := by decide +kernel
theorem ns14_50 : am_lk am_specL 14 50 = none := by decide +kernel
theorem cl14_29 : am_lk am_callL 14 29 = some (6, 150) := by decide +kernel
theorem ns14_29 : am_lk am_specL 14 29 = none := by decide +kernel
theorem cl14_343 : am_lk am_callL 14 343 = some (6, 154) := by decide +kernel
theorem ns14_343 : am_lk am_specL 14 343 = none := by decide +kernel
theorem cl14_329 : am_lk am_callL 14 329 = some (6, 155) := by decide +kernel
theorem ns14_329 : am_lk am_specL 14 329 = none := by decide +kernel
theorem gs15_1053 : am_stat 15 1053 = some (.retAddr 12, (am_stat 15 1053).get!.2) := rfl
theorem cl15_1062 : am_lk am_callL 15 1062 = some (0, 174) := by decide +kernel
theorem ns15_1062 : am_lk am_specL 15 1062 = none := by decide +kernel
theorem cl15_492 : am_lk am_callL 15 492 = some (2, 164) := by decide +kernel
theorem ns15_492 : am_lk am_specL 15 492 = none := by decide +kernel
theorem fl15_9 : am_fld 15 9 = some (100, 0, false) := by decide +kernel
theorem cl15_495 : am_lk am_callL 15 495 = some (0, 177) := by decide +kernel
theorem ns15_495 : am_lk am_specL 15 495 = none := by decide +kernel
theorem gs15_38 : am_stat 15 38 = some (.int (nI 1), (am_stat 15 38).get!.2) := rfl
theorem fl15_15 : am_fld 15 15 = some (100, 1, false) := by decide +kernel
theorem cl15_1059 : am_lk am_callL 15 1059 = some (0, 175) := by decide +kernel
theorem ns15_1059 : am_lk am_specL 15 1059 = none := by decide +kernel
theorem cl15_1065 : am_lk am_callL 15 1065 = some (0, 176) := by decide +kernel
theorem ns15_1065 : am_lk am_specL 15 1065 = none := by decide +kernel
theorem cl15_335 : am_lk am_callL 15 335 = some (2, 168) := by decide +kernel
theorem ns15_335 : am_lk am_specL 15 335 = none := by decide +kernel
theorem sp15_212 : am_lk am_specL 15 212 = some 1 := by decide +kernel
theorem nc15_212 : am_lk am_callL 15 212 = none := by decide +kernel
theorem cl15_106 : am_lk am_callL 15 106 = some (0, 179) := by decide +kernel
theorem ns15_106 : am_lk am_specL 15 106 = none := by decide +kernel
theorem gs17_83 : am_stat 17 83 = some (.retAddr 5, (am_stat 17 83).get!.2) := rfl
theorem gs17_87 : am_stat 17 87 = some (.retAddr 4, (am_stat 17 87).get!.2) := rfl
theorem sp18_194 : am_lk am_specL 18 194 = some 4 := by decide +kernel
theorem nc18_194 : am_lk am_callL 18 194 = none := by decide +kernel
theorem lc18_200 : am_lk am_ldcL 18 200 = some (.int (nI 2147483639)) := rfl
theorem cl18_201 : am_lk am_callL 18 201 = some (0, 173) := by decide +kernel
theorem ns18_201 : am_lk am_specL 18 201 = none := by decide +kernel
theorem cl21_9 : am_lk am_callL 21 9 = some (0, 165) := by decide +kernel
theorem ns21_9 : am_lk am_specL 21 9 = none := by decide +kernel
theorem nw9_7 : am_lk am_newL 9 7 = some 0 := by decide +kernel
theorem cl9_9 : am_lk am_callL 9 9 = some (4, 0) := by decide +kernel
theorem ns9_9 : am_lk am_specL 9 9 = none := by decide +kernel
theorem nw9_10 : am_lk am_newL 9 10 = some 5 := by decide +kernel
theorem cl9_12 : am_lk am_callL 9 12 = some (4, 58) := by decide +kernel
theorem ns9_12 : am_lk am_specL 9 12 = none := by decide +kernel
theorem cl9_13 : am_lk am_callL 9 13 = some (2, 1) := by decide +kernel
theorem ns9_13 : am_lk am_specL 9 13 = none := by decide +kernel
theorem cl9_17 : am_lk am_callL 9 17 = some (2, 59) := by decide +kernel
theorem ns9_17 : am_lk am_specL 9 17 = none := by decide +kernel
theorem cl9_18 : am_lk am_callL 9 18 = some (2, 7) := by decide +kernel
theorem ns9_18 : am_lk am_specL 9 18 = none := by decide +kernel
theorem cl9_21 : am_lk am_callL 9 21 = some (2, 65) := by decide +kernel
theorem ns9_21 : am_lk am_specL 9 21 = none := by decide +kernel
theorem cl9_22 : am_lk am_callL 9 22 = some (2, 8) := by decide +kernel
theorem ns9_22 : am_lk am_specL 9 22 = none := by decide +kernel
theorem cl9_25 : am_lk am_callL 9 25 = some (2, 66) := by decide +kernel
theorem ns9_25 : am_lk am_specL 9 25 = none := by decide +kernel
theorem cl9_26 : am_lk am_callL 9 26 = some (2, 10) := by decide +kernel
theorem ns9_26 : am_lk am_specL 9 26 = none := by decide +kernel
theorem cl9_29 : am_lk am_callL 9 29 = some (2, 68) := by decide +kernel
theorem ns9_29 : am_lk am_specL 9 29 = none := by decide +kernel
theorem cl9_30 : am_lk am_callL 9 30 = some (2, 11) := by decide +kernel
theorem ns9_30 : am_lk am_specL 9 30 = none := by decide +kernel
theorem cl9_34 : am_lk am_callL 9 34 = some (2, 69) := by decide +kernel
theorem ns9_34 : am_lk am_specL 9 34 = none := by decide +kernel
theorem cl9_35 : am_lk am_callL 9 35 = some (2, 13) := by decide +kernel
theorem ns9_35 : am_lk am_specL 9 35 = none := by decide +kernel
theorem cl9_39 : am_lk am_callL 9 39 = some (2, 75) := by decide +kernel
theorem ns9_39 : am_lk am_specL 9 39 = none := by decide +kernel
theorem cl9_40 : am_lk am_callL 9 40 = some (2, 14) := by decide +kernel
theorem ns9_40 : am_lk am_specL 9 40 = none := by decide +kernel
theorem cl9_43 : am_lk am_callL 9 43 = some (2, 76) := by decide +kernel
theorem ns9_43 : am_lk am_specL 9 43 = none := by decide +kernel
theorem cl9_44 : am_lk am_callL 9 44 = some (2, 17) := by decide +kernel
theorem ns9_44 : am_lk am_specL 9 44 = none := by decide +kernel
theorem cl9_47 : am_lk am_callL 9 47 = some (2, 78) := by decide +kernel
theorem ns9_47 : am_lk am_specL 9 47 = none := by decide +kernel
theorem cl9_48 : am_lk am_callL 9 48 = some (2, 18) := by decide +kernel
theorem ns9_48 : am_lk am_specL 9 48 = none := by decide +kernel
theorem cl9_51 : am_lk am_callL 9 51 = some (2, 79) := by decide +kernel
theorem ns9_51 : am_lk am_specL 9 51 = none := by decide +kernel
theorem cl9_52 : am_lk am_callL 9 52 = some (2, 19) := by decide +kernel
theorem ns9_52 : am_lk am_specL 9 52 = none := by decide +kernel
theorem cl9_55 : am_lk am_callL 9 55 = some (2, 80) := by decide +kernel
theorem ns9_55 : am_lk am_specL 9 55 = none := by decide +kernel
theorem cl9_56 : am_lk am_callL 9 56 = some (2, 20) := by decide +kernel
theorem ns9_56 : am_lk am_specL 9 56 = none := by decide +kernel
theorem cl9_59 : am_lk am_callL 9 59 = some (2, 81) := by decide +kernel
theorem ns9_59 : am_lk am_specL 9 59 = none := by decide +kernel
theorem cl9_60 : am_lk am_callL 9 60 = some (2, 21) := by decide +kernel
theorem ns9_60 : am_lk am_specL 9 60 = none := by decide +kernel
theorem cl9_63 : am_lk am_callL 9 63 = some (2, 83) := by decide +kernel
theorem ns9_63 : am_lk am_specL 9 63 = none := by decide +kernel
theorem cl9_64 : am_lk am_callL 9 64 = some (2, 22) := by decide +kernel
theorem ns9_64 : am_lk am_specL 9 64 = none := by decide +kernel
theorem cl9_68 : am_lk am_callL 9 68 = some (2, 84) := by decide +kernel
theorem ns9_68 : am_lk am_specL 9 68 = none := by decide +kernel
theorem cl9_69 : am_lk am_callL 9 69 = some (7, 23) := by decide +kernel
theorem ns9_69 : am_lk am_specL 9 69 = none := by decide +kernel
theorem cl9_72 : am_lk am_callL 9 72 = some (2, 85) := by decide +kernel
theorem ns9_72 : am_lk am_specL 9 72 = none := by decide +kernel
theorem cl9_73 : am_lk am_callL 9 73 = some (2, 24) := by decide +kernel
theorem ns9_73 : am_lk am_specL 9 73 = none := by decide +kernel
theorem cl9_76 : am_lk am_callL 9 76 = some (2, 95) := by decide +kernel
theorem ns9_76 : am_lk am_specL 9 76 = none := by decide +kernel
theorem cl9_77 : am_lk am_callL 9 77 = some (2, 25) := by decide +kernel
theorem ns9_77 : am_lk am_specL 9 77 = none := by decide +kernel
theorem cl9_80 : am_lk am_callL 9 80 = some (2, 109) := by decide +kernel
theorem ns9_80 : am_lk am_specL 9 80 = none := by decide +kernel
theorem cl9_81 : am_lk am_callL 9 81 = some (2, 26) := by decide +kernel
theorem ns9_81 : am_lk am_specL 9 81 = none := by decide +kernel
theorem cl9_84 : am_lk am_callL 9 84 = some (2, 110) := by decide +kernel
theorem ns9_84 : am_lk am_specL 9 84 = none := by decide +kernel
theorem cl9_85 : am_lk am_callL 9 85 = some (2, 27) := by decide +kernel
theorem ns9_85 : am_lk am_specL 9 85 = none := by decide +kernel
theorem cl9_88 : am_lk am_callL 9 88 = some (2, 112) := by decide +kernel
theorem ns9_88 : am_lk am_specL 9 88 = none := by decide +kernel
theorem cl9_89 : am_lk am_callL 9 89 = some (2, 28) := by decide +kernel
theorem ns9_89 : am_lk am_specL 9 89 = none := by decide +kernel
theorem cl9_92 : am_lk am_callL 9 92 = some (2, 113) := by decide +kernel
theorem ns9_92 : am_lk am_specL 9 92 = none := by decide +kernel
theorem cl9_93 : am_lk am_callL 9 93 = some (2, 29) := by decide +kernel
theorem ns9_93 : am_lk am_specL 9 93 = none := by decide +kernel
theorem cl9_96 : am_lk am_callL 9 96 = some (2, 114) := by decide +kernel
theorem ns9_96 : am_lk am_specL 9 96 = none := by decide +kernel
theorem cl9_97 : am_lk am_callL 9 97 = some (2, 31) := by decide +kernel
theorem ns9_97 : am_lk am_specL 9 97 = none := by decide +kernel
theorem cl9_100 : am_lk am_callL 9 100 = some (2, 119) := by decide +kernel
theorem ns9_100 : am_lk am_specL 9 100 = none := by decide +kernel
theorem cl9_101 : am_lk am_callL 9 101 = some (2, 32) := by decide +kernel
theorem ns9_101 : am_lk am_specL 9 101 = none := by decide +kernel
theorem cl9_104 : am_lk am_callL 9 104 = some (2, 120) := by decide +kernel
theorem ns9_104 : am_lk am_specL 9 104 = none := by decide +kernel
theorem cl9_105 : am_lk am_callL 9 105 = some (2, 33) := by decide +kernel
theorem ns9_105 : am_lk am_specL 9 105 = none := by decide +kernel
theorem cl9_109 : am_lk am_callL 9 109 = some (2, 121) := by decide +kernel
theorem ns9_109 : am_lk am_specL 9 109 = none := by decide +kernel
